/-! INTO A METHOD whose class no word calls initialized: by its body -/
section ZINTO
theorem st_weaken {tb : Tables} {e : Env} {mid below : List Frame} {a b : State} (h : Steps tb e (mid ++ below) a b) : Steps tb e below a b := by
  obtain ⟨n, hn, w⟩ := h
  exact ⟨n, hn, fun k hk => (w k hk).weaken⟩
theorem into_run {p : Program} {l : Launch} {e : Env} {R : Room} {s : State} {m : MethodId} {args : Array Value} {below : List Frame} {meth : Method} {c : Code} {T : State} {locs : List Loc} {cells slots : Nat} (X : Stand p l e R s m args below meth c T locs cells slots) {g : JFrame} (hg : g.method = m) (hsize : g.locals.size = c.maxLocals) {ig : Instr} {len : Nat} (hdg : decode c.code g.pc = .ok (ig, len))
    {mk : MethodId} {methk : Method} {ck : Code} (a : Array Value) {R' : Room} (hmk : T.vm.method? mk = some methk) (hck : methk.code = some ck) (hlk : methk.locks = false) (hpk : T.plainMethod mk)
    (hframes : R'.frames + 1 ≤ R.frames) (hlocals : 2 * g.monitorRoom + (g.stack.map fun v => v.category).sum + (ck.maxLocals + 11) + R'.locals ≤ R.locals) (hcells : cells + R'.cells ≤ R.cells) (hslots : slots + R'.slots ≤ R.slots)
    {Qc : Array Value → State → Outcome → State → Prop} {mc ms : Nat} {free : Addr → Prop}
    (hW : W p l e R' (T.calling g mk a) mk a (.java g :: below) methk ck T.heap [] 0 0 (MQ (.java g :: below) Qc a (T.calling g mk a) mc ms free) (entryFrame mk a ck.maxLocals)) :
    ∃ (v : Option Value) (t T' : State) (L : List Loc), Stand p l e R s m args below meth c T' (locs ++ L) (cells + mc) (slots + ms) ∧ (∀ q ∈ L, free q.base) ∧ T'.heap = t.heap ∧ T'.vm = t.vm ∧ Qc a (T.calling g mk a) (.returned v) t ∧
      ∀ acts, Steps p.tables e below (doInvoke e (T.setTop g) acts mk a).1 (T'.setTop { g with pc := g.pc + len, stack := v.toList ++ g.stack }) := by
  obtain ⟨Y₀, hin⟩ := X.into hg hsize hdg a (R' := R') hmk hck hlk hpk hframes hlocals hcells hslots
  obtain ⟨t, st, o, hrun, hend, hq, L, ⟨⟨v, hv⟩, hWarm, hsame⟩, hL⟩ := hW ((T.setTop g).pushFrame (.java (entryFrame mk a ck.maxLocals))) rfl Y₀
  subst hv
  obtain ⟨T', X', -, -, ht⟩ := X.outOf hg hdg hend hWarm hsame
  refine ⟨v, t, T', L, X', hL, by rw [ht]; rfl, by rw [ht]; rfl, hq, fun acts => ?_⟩
  rw [hin acts, ← ht]
  exact st_weaken (mid := [.java g]) st
variable {C : ZC} {cc : ByteArray} {own : String} {nL : Nat} {ret : Option FieldType} {d mc ms : Nat} {post : Option Value → GH → Prop} {px : String → GH → Prop} {k n : Nat} {L : List (Option Value)} {pc pc' : Nat} {st : List Value} {h1 : GH}
/-- a method's body, walked -/
def zBod (l : Launch) (own : String) (cc : ByteArray) (mL : Nat) (ret : Option FieldType) (d mc ms : Nat) (vs : List Value) (g : zG) (h : GH) (post : Option Value → GH → Prop) : Prop :=
  ∀ C : ZC, zg C = g → C.2.1 = l → zX C cc own mL ret d mc ms post → ZP C mL (zAt h) 0 0 (vs.map some ++ List.replicate (mL - vs.length) none) 0 []
theorem warm_words {s U : State} {args a' : Array Value} (hW : s.WarmedH U.vm) (h : ∀ w ∈ lw_all, w.before args s = true) : ∀ w ∈ lw_all, w.before a' U = true := fun w hw => pay_in (args := args) (s := s) h (lw_good fun _ hw => hw) w hw a' U hW
/-- an abstract method called on a constant that stands fast -/
theorem z_callE (X : zX C cc own nL ret d mc ms post) {x y : MethodName} {cy : ByteArray} {mL N idx dy b : Nat} {rt : Option FieldType} {vs st0 : List Value} {v : Option Value} {Cn : String} (hq : Cond.methodLink own idx x ∈ lw_all) (hsame : Cond.sameMethod x.cls x.cls x.name x.desc ∈ lw_all) (hdecl : Cond.declares ⟨x.cls, x.name, x.desc⟩ ∈ lw_tbl) (hsel : Cond.selects Cn x y ∈ lw_all) (hins : Cond.instanceMethod y ∈ lw_all) (hcode : Cond.code y cy mL rt ∈ lw_all) (hy : plainName y.cls = true)
    (hdx : x.cls ≠ "java/lang/invoke/MethodHandle" ∧ x.cls ≠ "java/lang/invoke/VarHandle" ∧ (parseMethodDescriptor x.desc).map (fun d => d.parameters.length) = some N) (hmL : mL ≤ 21) (hO : ∀ U, zFacts (zg C) U → va_O Cn b (zA (zg C)) U U.heap)
    (hd : decode cc pc = .ok (.invokevirtual idx, 3)) (hn : pc + 3 = pc') (hdd : dy + 1 ≤ d) (hk : k ≤ mc) (hm : n ≤ ms) (hst : st0 = vs.reverse ++ vR b :: st) (hlen : vs.length = N) (hcat : (st.map fun v => v.category).sum ≤ 8) (hcv : (vR b :: vs).all (fun v => v.category == 1) = true) (hlv : (lg_sl (vR b :: vs)).length ≤ mL)
    (hM : zBod C.2.1 y.cls cy mL rt dy 0 0 (vR b :: vs) (zg C) h1 fun v' h' => v' = v ∧ h' = h1) (kk : ZP C nL (zAt h1) k n L pc' (zst v st)) : ZP C nL (zAt h1) k n L pc st0 := by
  obtain ⟨p, l, e, R, s, m, args, below, meth, c, g, Q⟩ := C
  obtain ⟨hx, hb, hml, hown, hts, hret, hlk, hK, hR, hQ⟩ := X
  subst hn
  intro h H locs cells slots ls g1 h2 h3 h4 h5 h6
  have g1 : h = h1 := g1
  subst g1
  have hRR : R = zrm d mc ms := hR
  subst hRR
  obtain ⟨cell, o1, o2, o3, -⟩ := (hO s hK.facts).kept h3.2.1
  obtain ⟨r0, r, hn0, hrm, hstR, hsigR⟩ := va_Decl.abs (hK.facts.2.2.2.2.2.2.1 _ hdecl rfl)
  obtain ⟨cn, ckk, r1, hcn, hck0, hni, hf, hn1⟩ := Cond.sameMethod_found (hts _ hsame)
  cases hn0.symm.trans hn1
  obtain ⟨mk, methM, hnamed, hmethM, -, habM⟩ := Cond.instanceMethod_spec (hts _ hins)
  obtain ⟨methM', cM, hmethM', hcM, hbM, hlM, hrM, hkM, htM, -⟩ := Cond.code_spec hnamed (hts _ hcode)
  cases hmethM.symm.trans hmethM'
  obtain ⟨c2, r2, m2, q1, q2, q3, q4, kP, hkP, hkPi⟩ := Cond.selects_spec (hts _ hsel)
  cases o3.symm.trans q1
  cases hf.symm.trans q2
  cases hnamed.symm.trans q3
  intro T hT X
  have hselP : selectMethod e.platform s.vm cell.cls r0 = .method mk := by rw [Launch.admits_selectMethod X.admits]; exact q4
  obtain ⟨vm₁, X₁, hstep₁⟩ := X.invokevirtualUp hx hown (hts _ hq) (hts _ hsame) ⟨hdx.1, hdx.2.1⟩ hn0 hrm hstR (a := b) (cell := cell) (by rw [hT]; exact o1)
    (fun z hh => by rw [hh] at o2; cases o2) hselP hmethM habM hkP hkPi (g := F0 m pc ls st0) rfl (argsL := vs) (rest := st) (by
      have h9 := hdx.2.2
      rw [hsigR] at h9
      exact hlen.trans (Option.some.inj h9).symm) hst (by show decode c.code pc = _; rw [hb]; exact hd)
  have hal := X₁.warmed.alike
  have hmk1 : (T.setVm vm₁).vm.method? mk = some methM := by rw [hal.method?]; exact hmethM
  obtain ⟨kN, hkN, hkn⟩ := className_of_methodNamed hnamed
  have hpk : (T.setVm vm₁).plainMethod mk := State.WarmedH.plainAt X₁.warmed fun k' hk' => by rw [hkN] at hk'; cases hk'; rw [hkn]; exact hy
  have hlE := lv_entry (vR b :: vs) hlv
  have hlook : vm₁.Alike vm₁ := Vm.Alike.refl _
  obtain ⟨v1, t, T', L9, X', hL, e1, e2, ⟨⟨v', h', hv, ⟨hp1, hp2⟩, hHt⟩, hF⟩, hst2⟩ := into_run X₁ (g := { F0 m pc ls st0 with stack := st }) rfl (h6.1.trans hml.symm) (ig := .invokevirtual idx) (len := 3) (by show decode c.code pc = _; rw [hb]; exact hd) (vR b :: vs).toArray (R' := zrm dy 0 0) hmk1 hcM hkM hpk
    (by show dy + 1 ≤ d; exact hdd) (by show 2 * 0 + (st.map fun v => v.category).sum + (cM.maxLocals + 11) + 40 * dy ≤ 40 * d; rw [hlM]; omega) (by show cells + 0 ≤ mc; omega) (by show slots + 0 ≤ ms; omega) (Qc := zQc g (fun v' h' => v' = v ∧ h' = h)) (mc := 0) (ms := 0) (free := zA g) (by
      rw [hlM, lg_entry_eq]
      refine hM (p, l, e, zrm dy 0 0, (T.setVm vm₁).calling { F0 m pc ls st0 with stack := st } mk (vR b :: vs).toArray, mk, (vR b :: vs).toArray, .java { F0 m pc ls st0 with stack := st } :: below, methM, cM, g, MQ (.java { F0 m pc ls st0 with stack := st } :: below) (zQc g (fun v' h' => v' = v ∧ h' = h)) (vR b :: vs).toArray ((T.setVm vm₁).calling { F0 m pc ls st0 with stack := st } mk (vR b :: vs).toArray) 0 0 (zA g)) rfl rfl
        ⟨hx, hbM, hlM, by show (T.setVm vm₁).vm.findClass y.cls = some mk.cls; rw [hal.findClass]; exact findClass_of_methodNamed hnamed, warm_words (U := (T.setVm vm₁).calling { F0 m pc ls st0 with stack := st } mk (vR b :: vs).toArray) X₁.warmed hts, hrM, hkM, (hK.S (U := T.setVm vm₁) X₁.warmed (by show va_S _ _ T.heap _; rw [hT]; exact h3)).calling _ _ _, rfl, fun _ _ _ _ _ hw => hw⟩ h T.heap [] 0 0 _ rfl (by rw [hT]; exact h2) va_S.rf (Nat.le_refl 0) (Nat.le_refl 0) (zL.of_args hlE fun i w hi => ?_)
      have hlt : i < (vR b :: vs).length := by
        rcases Nat.lt_or_ge i (vR b :: vs).length with q | q
        · exact q
        · rw [List.getElem?_append_right (by simpa using q)] at hi
          simp [List.getElem?_replicate] at hi
      rw [List.getElem?_append_left (by simpa using hlt), List.getElem?_map] at hi
      have h9 : (vR b :: vs)[i]? = some w := by
        cases hgi : (vR b :: vs)[i]? with
        | none => rw [hgi] at hi; cases hi
        | some z => rw [hgi] at hi; simpa using hi
      have := lv_args_at (vR b :: vs) 0 i w (fun z hz => by simpa using List.all_eq_true.mp hcv z hz) h9
      simpa using this)
  have ev : v1 = v := (Outcome.returned.inj hv).trans hp1
  obtain ⟨k1, k2, k3⟩ := vx_keep (A0 := zA g) (free := zA g) (st₀ := (T.setVm vm₁).calling { F0 m pc ls st0 with stack := st } mk (vR b :: vs).toArray) hT e1 h3 (fun _ _ h => h) (fun _ h => h) hL hF
  obtain ⟨t2, a1, b1⟩ := kk h T'.heap (locs ++ L9) (cells + 0) (slots + 0) ls rfl (by rw [e1, ← hp2]; exact hHt) k3 h4 h5 h6 T' rfl X'
  refine ⟨t2, hstep₁ _ fun acts => ?_, b1⟩
  have st9 := hst2 acts
  rw [ev, zst_eq] at st9
  exact st9.trans a1
end ZINTO

/-! THROWING, over ghost heaps -/
section ZTHROW
variable {C : ZC} {cc : ByteArray} {own : String} {nL : Nat} {ret : Option FieldType} {d mc ms : Nat} {post : Option Value → GH → Prop} {px : String → GH → Prop} {Φ Φ' : GH → Prop} {k n : Nat} {L : List (Option Value)} {pc pc' : Nat} {st : List Value}
/-- what a walk that may throw knows beside: no handlers, its end, no traces -/
def zXt (C : ZC) (mc ms : Nat) (post : Option Value → GH → Prop) (px : String → GH → Prop) : Prop :=
  (∀ x ∈ C.2.2.2.2.2.2.2.2.2.1.exceptionTable.toList, False) ∧ C.2.2.2.2.2.2.2.2.2.2.2 = vx_MQ C.2.2.2.2.2.2.2.1 (zQc C.2.2.2.2.2.2.2.2.2.2.1 post) (zXC C.2.2.2.2.2.2.2.2.2.2.1 px) C.2.2.2.2.2.2.1 C.2.2.2.2.1 mc ms (zA C.2.2.2.2.2.2.2.2.2.2.1) ∧ C.2.1.stackTraces = false
theorem zMex.imp {l : Launch} {y : MethodName} {cy : ByteArray} {mL : Nat} {rt : Option FieldType} {dy a b : Nat} {vs : List Value} {g : zG} {h : GH} {P P' : Option Value → GH → Prop} {qx qx' : String → GH → Prop} (hi : ∀ v h', P v h' → P' v h') (hj : ∀ E h', qx E h' → qx' E h') (hM : zMex l y cy mL rt dy a b vs g h P qx) : zMex l y cy mL rt dy a b vs g h P' qx' := by
  intro p e ha hc hk s m args below hf happ hP hK
  obtain ⟨t, o, h1, h2, h3, h4⟩ := hM p e ha hc hk s m args below hf happ hP hK
  refine ⟨t, o, h1, h2, h3, ?_⟩
  rcases h4 with ⟨⟨⟨v, h', e1, e2, e3⟩, h5⟩, h6⟩ | ⟨q, e0, E, ce, L, ⟨⟨h', e1, e2⟩, e3⟩, h6⟩
  · exact Or.inl ⟨⟨⟨v, h', e1, hi v h' e2, e3⟩, h5⟩, h6⟩
  · exact Or.inr ⟨q, e0, E, ce, L, ⟨⟨h', hj E h' e1, e2⟩, e3⟩, h6⟩
theorem zMex.mk {l : Launch} {y : MethodName} {cy : ByteArray} {mL : Nat} {rt : Option FieldType} {dy a b : Nat} {vs : List Value} {g : zG} {h : GH} {P : Option Value → GH → Prop} {px : String → GH → Prop} {L0 : List (Option Value)} (hl0 : l.stackTraces = false) (hy : plainName y.cls = true) (hcat : vs.all (fun v => v.category == 1) = true) (hlen : (lg_sl vs).length ≤ mL) (hL0 : vs.map some ++ List.replicate (mL - vs.length) none = L0)
    (body : ∀ C : ZC, zg C = g → C.2.1 = l → zX C cy y.cls mL rt dy a b P → zXt C a b P px → ZP C mL (fun x => x = h) 0 0 L0 0 []) : zMex l y cy mL rt dy a b vs g h P px := by
  refine vx_ofW (cc := cy) (maxL := mL) (ret := rt) hy rfl ?_
  intro p e s m args below meth c s₁ B hml ht hv
  obtain ⟨rfl, hK, hH⟩ := hv
  have hts := atoms_spec (ws := ws_ y cy mL rt) B.pre
  have hts' : ∀ w ∈ lw_all, w.before _ s = true := fun w hw => hts w (List.mem_cons_of_mem _ hw)
  have hown : s.vm.findClass y.cls = some m.cls := findClass_of_methodNamed B.named
  have hl := lv_entry vs hlen
  rw [lg_entry_eq]
  refine body (p, l, e, (headSpec (ws_ y cy mL rt) (zrm dy a b)).room, s, m, vs.toArray, below, meth, c, g, vx_MQ below (zQc g P) (zXC g px) vs.toArray s a b (zA g)) rfl rfl ⟨B.exec, B.bytes, hml, hown, hts', B.returns, B.notSynchronized, hK, rfl, fun _ _ _ _ _ hw => vx_ret hw⟩ ⟨ht, rfl, hl0⟩ h s.heap [] 0 0 _ rfl hH va_S.rf (Nat.le_refl 0) (Nat.le_refl 0) (zL.of_args hl fun i v hi => ?_)
  subst hL0
  have hlt : i < vs.length := by
    rcases Nat.lt_or_ge i vs.length with q | q
    · exact q
    · rw [List.getElem?_append_right (by simpa using q)] at hi
      simp [List.getElem?_replicate] at hi
  rw [List.getElem?_append_left (by simpa using hlt), List.getElem?_map] at hi
  have h9 : vs[i]? = some v := by
    cases hg : vs[i]? with
    | none => rw [hg] at hi; cases hi
    | some w => rw [hg] at hi; simpa using hi
  have := lv_args_at vs 0 i v (fun w hw => by simpa using List.all_eq_true.mp hcat w hw) h9
  simpa using this
/-- throw new E() -/
theorem z_throw (X : zX C cc own nL ret d mc ms post) (Xt : zXt C mc ms post px) {E : String} {names : List String} {ik ic : Nat} (hcls : Bundle.fit E = true) (hnames : names.all Bundle.fit = true) (hk : Cond.classLink own ik E ∈ lw_all) (hini : Cond.initialized E ∈ lw_all) (hat : ∀ w ∈ vx_at0 own ic E names, w ∈ lw_all)
    (hgood : (Cond.classLink own ik E :: Cond.initialized E :: vx_at0 own ic E names).all vx_ot = true) (d0 : decode cc pc = .ok (.new ik, 3)) (d3 : decode cc (pc + 3) = .ok (.dup, 1)) (d4 : decode cc (pc + 4) = .ok (.invokespecial ic, 3)) (d7 : decode cc (pc + 7) = .ok (.athrow, 1))
    (hroom : names.length + 3 < d ∧ 13 * (names.length + 1) + 50 ≤ 40 * d) (hkm : k + 1 ≤ mc) (hnm : n + 6 ≤ ms) (hcat : (st.map fun v => v.category).sum ≤ 8) (hp : ∀ h, Φ h → px E h) : ZP C nL Φ k n L pc st := by
  obtain ⟨p, l, e, R, s, m, args, below, meth, c, g, Q⟩ := C
  obtain ⟨hx, hb, hml, hown, hts, hret, hlk, hK, hR, hQ⟩ := X
  obtain ⟨ht, hQ0, hl0⟩ := Xt
  have hQ0 : Q = vx_MQ below (zQc g post) (zXC g px) args s mc ms (zA g) := hQ0
  subst hQ0
  have hR' : R = zrm d mc ms := hR
  subst hR'
  intro h H locs cells slots ls h1 h2 h3 h4 h5 h6
  refine vx_throw0 (A := zA g) hx hb hl0 hown hcls (fun x hx => List.all_eq_true.mp hnames x hx) (hts _ hk) (hts _ hini) (fun w hw => hts w (hat w hw)) (fun w hw => List.all_eq_true.mp hgood w hw) hK.facts.2.1.1 hK.facts.2.1.2 h3 (h6.1.trans hml.symm) d0 d3 d4 d7 (fun x hx => (ht x hx).elim) hroom.1 (by show _ ≤ 40 * d; omega) (by show cells + 1 ≤ mc; omega) (by show slots + 6 ≤ ms; omega) hlk (fun t ha hz hq => ?_) h3.2.2 (by omega) (by omega)
  exact ⟨⟨h, hp h h1, fun q e he => ⟨(h2 q e he).1, (h2 q e he).2.kept (hq q (h2.lt he))⟩⟩, Nat.le_trans h3.1 hz, fun q q1 q2 => (hq q (Nat.lt_of_lt_of_le q1 h3.1)).trans (h3.2.1 q q1 q2)⟩
theorem z_runX {p : Program} {l : Launch} {e : Env} {R : Room} {s : State} {m : MethodId} {args : Array Value} {below : List Frame} {meth : Method} {c : Code} {g : zG} {H : Heap} {locs : List Loc} {cells slots mcy msy : Nat} {ls : Array Slot} {st0 : List Value} {a : Array Value} {qx : String → GH → Prop}
    (ht : ∀ x ∈ c.exceptionTable.toList, False) (hlk : meth.locks = false) (hS : va_S (zA g) s.heap H locs) (hk : cells + mcy ≤ k) (hm : slots + msy ≤ n) (hkm : k ≤ mc) (hnm : n ≤ ms) (hl : zL ls nL L) (hq : ∀ E h, qx E h → px E h)
    (hr : vx_Run p l e R s m args below meth c H locs cells slots mcy msy (F0 m pc ls st0) st (zQc g (fun v h' => ZP (p, l, e, R, s, m, args, below, meth, c, g, vx_MQ below (zQc g post) (zXC g px) args s mc ms (zA g)) nL (fun x => x = h') k n L (pc + 3) (v.toList ++ st)) a) (zXC g qx) (zA g)) :
    zWw (p, l, e, R, s, m, args, below, meth, c, g, vx_MQ below (zQc g post) (zXC g px) args s mc ms (zA g)) H locs cells slots (F0 m pc ls st0) := by
  intro T hT X
  rcases hr T hT X with ⟨v, st₀, t, T', L9, h0, X', hL, e1, e2, ⟨⟨v', h', hv, hp, hHt⟩, hF⟩, stp⟩ | ⟨q, st₀, t, T', L9, E, ce, h0, X', hL, e1, e2, ⟨⟨h', hp, hHt⟩, hF⟩, hce, hcv, hcl, stp⟩
  · cases hv
    obtain ⟨k1, k2, k3⟩ := vx_keep (A0 := zA g) (free := zA g) h0 e1 hS (fun _ _ h => h) (fun _ h => h) hL hF
    obtain ⟨t2, a1, b1⟩ := hp h' T'.heap (locs ++ L9) (cells + mcy) (slots + msy) ls rfl (by rw [e1]; exact hHt) k3 hk hm hl T' rfl X'
    exact ⟨t2, stp t2 a1, b1⟩
  · obtain ⟨k1, k2, k3⟩ := vx_keep (A0 := zA g) (free := zA g) h0 e1 hS (fun _ _ h => h) (fun _ h => h) hL hF
    obtain ⟨t2, a1, b1⟩ := vx_out (Qc := zQc g post) (XC := zXC g px) (free := zA g) (mc := mc) (ms := ms) (pc := pc) (ls := ls) (rest := st) (fun x hx => (ht x hx).elim) hlk (by rw [e1]; exact hce) hcv hcl (fun t' ht' _ => ⟨⟨h', hq E h' hp, by rw [ht', e1]; exact hHt⟩, k3.F ht'⟩) k3.2.2 (by omega) (by omega) T' rfl X'
    exact ⟨t2, stp.trans a1, b1⟩
theorem z_callSX (X : zX C cc own nL ret d mc ms post) (Xt : zXt C mc ms post px) {y : MethodName} {cy : ByteArray} {mL N idx dy mcy msy : Nat} {rt : Option FieldType} {vs st0 : List Value} {qx : String → GH → Prop} (Y : zYS y cy mL rt N) (hq : Cond.methodLink own idx y ∈ lw_all) (hd : decode cc pc = .ok (.invokestatic idx, 3)) (hn : pc + 3 = pc') (hdd : dy + 1 ≤ d) (hk : k + mcy ≤ mc) (hm : n + msy ≤ ms) (hst : st0 = vs.reverse ++ st) (hlen : vs.length = N) (hcat : (st.map fun v => v.category).sum ≤ 8)
    (hqx : ∀ E h, qx E h → px E h) (hM : ∀ h, Φ h → zMex C.2.1 y cy mL rt dy mcy msy vs (zg C) h (fun v h' => ZP C nL (fun x => x = h') (k + mcy) (n + msy) L pc' (v.toList ++ st)) qx) : ZP C nL Φ k n L pc st0 := by
  obtain ⟨p, l, e, R, s, m, args, below, meth, c, g, Q⟩ := C
  obtain ⟨hx, hb, hml, hown, hts, hret, hlk, hK, hR, hQ⟩ := X
  obtain ⟨ht, hQ0, hl0⟩ := Xt
  have hQ0 : Q = vx_MQ below (zQc g post) (zXC g px) args s mc ms (zA g) := hQ0
  subst hQ0
  subst hn
  intro h H locs cells slots ls h1 h2 h3 h4 h5 h6
  obtain ⟨⟨w1, w2, w3⟩, hdy, hmL⟩ := Y
  have hRR : R = zrm d mc ms := hR
  refine z_runX (mcy := mcy) (msy := msy) (k := k + mcy) (n := n + msy) ht hlk h3 (by omega) (by omega) hk hm h6 hqx (vx_runS (As := vs) (rest := st) ⟨hx, hb, hml, hown, hts⟩ (hM h h1) (va_cwS N hts (lw_S hq w1 w2 w3) rfl rfl rfl hdy ⟨by rw [hRR]; exact hdd, by rw [hRR]; show 8 + (mL + 11) + 40 * dy ≤ 40 * d; omega⟩) ⟨zblind _ _ _, fun U hU hW => ⟨rfl, hK.S hW (by rw [hU]; exact h3), by rw [hU]; exact h2⟩⟩ rfl hlen h6.1 hst (lv_room hcat) hd ⟨by rw [hRR]; show cells + mcy ≤ mc; omega, by rw [hRR]; show slots + msy ≤ ms; omega⟩)
theorem z_callVX (X : zX C cc own nL ret d mc ms post) (Xt : zXt C mc ms post px) {y : MethodName} {cy : ByteArray} {mL N idx dy mcy msy b ci : Nat} {rt : Option FieldType} {vs st0 : List Value} {T : u_T} {Nf : Nat} {qx : String → GH → Prop} (Y : zYV y cy mL rt N) (hq : Cond.methodLink own idx y ∈ lw_all) (hd : decode cc pc = .ok (.invokevirtual idx, 3)) (hn : pc + 3 = pc') (hdd : dy + 1 ≤ d) (hk : k + mcy ≤ mc) (hm : n + msy ≤ ms) (hst : st0 = vs.reverse ++ vR b :: st) (hlen : vs.length = N) (hcat : (st.map fun v => v.category).sum ≤ 8)
    (hc : zCl[ci]? = some (y.cls, T, Nf)) (hh : ∀ h, Φ h → ∃ fs, h b = some (zO ci fs)) (hqx : ∀ E h, qx E h → px E h)
    (hM : ∀ h, Φ h → zMex C.2.1 y cy mL rt dy mcy msy (vR b :: vs) (zg C) h (fun v h' => ZP C nL (fun x => x = h') (k + mcy) (n + msy) L pc' (v.toList ++ st)) qx) : ZP C nL Φ k n L pc st0 := by
  obtain ⟨p, l, e, R, s, m, args, below, meth, c, g, Q⟩ := C
  obtain ⟨hx, hb, hml, hown, hts, hret, hlk, hK, hR, hQ⟩ := X
  obtain ⟨ht, hQ0, hl0⟩ := Xt
  have hQ0 : Q = vx_MQ below (zQc g post) (zXC g px) args s mc ms (zA g) := hQ0
  subst hQ0
  subst hn
  intro h H locs cells slots ls h1 h2 h3 h4 h5 h6
  obtain ⟨⟨w1, w2, w3, w4⟩, hdy, hmL⟩ := Y
  have hRR : R = zrm d mc ms := hR
  obtain ⟨fs, hfs⟩ := hh h h1
  have hat : va_at g.1 zCl (b, .inr (ci, fs)) H := (h2 b _ hfs).2
  refine z_runX (mcy := mcy) (msy := msy) (k := k + mcy) (n := n + msy) ht hlk h3 (by omega) (by omega) hk hm h6 hqx (vx_runV (As := vs) (rest := st) ⟨hx, hb, hml, hown, hts⟩ (hM h h1) (cwV N hts (lw_V hq w1 w2 w3 w4) rfl rfl rfl ⟨rfl, hdy⟩ ⟨by rw [hRR]; exact hdd, by rw [hRR]; show 8 + (mL + 11) + 40 * dy ≤ 40 * d; omega⟩) ⟨zblind _ _ _, va_recv (q0 := 0) (ci := ci) (fs := fs) hK.facts.1 (zP1 hat) hc rfl, fun U hU hW => ⟨rfl, hK.S hW (by rw [hU]; exact h3), by rw [hU]; exact h2⟩⟩ rfl hlen h6.1 hst (lv_room hcat) hd ⟨by rw [hRR]; show cells + mcy ≤ mc; omega, by rw [hRR]; show slots + msy ≤ ms; omega⟩)
end ZTHROW

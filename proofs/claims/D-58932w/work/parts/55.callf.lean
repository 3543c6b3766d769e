/-! CALLS by an interface, over ghost heaps -/
section ZCALLF
variable {C : ZC} {cc : ByteArray} {own : String} {nL : Nat} {ret : Option FieldType} {d mc ms : Nat} {post : Option Value → GH → Prop} {Φ Φ' : GH → Prop} {k n : Nat} {L : List (Option Value)} {pc pc' : Nat} {st : List Value}
theorem z_run5 {p : Program} {l : Launch} {e : Env} {R : Room} {s : State} {m : MethodId} {args : Array Value} {below : List Frame} {meth : Method} {c : Code} {g : zG} {Q : State → Prop} {H : Heap} {locs : List Loc} {cells slots mcy msy : Nat} {ls : Array Slot} {st0 : List Value} {a : Array Value}
    (hS : va_S (zA g) s.heap H locs) (hk : cells + mcy ≤ k) (hm : slots + msy ≤ n) (hl : zL ls nL L)
    (hr : va_Run5 p l e R s m args below meth c H locs cells slots mcy msy (F0 m pc ls st0) st (zQc g (fun v h' => ZP (p, l, e, R, s, m, args, below, meth, c, g, Q) nL (fun x => x = h') k n L (pc + 5) (v.toList ++ st)) a) (zA g)) :
    zWw (p, l, e, R, s, m, args, below, meth, c, g, Q) H locs cells slots (F0 m pc ls st0) := by
  intro T hT X
  obtain ⟨v, st₀, t, T', L9, h0, X', hL, e1, e2, ⟨⟨v', h', hv, hp, hHt⟩, hF⟩, stp⟩ := hr T hT X
  cases hv
  obtain ⟨k1, k2, k3⟩ := vx_keep (A0 := zA g) (free := zA g) h0 e1 hS (fun _ _ h => h) (fun _ h => h) hL hF
  obtain ⟨t2, a1, b1⟩ := hp h' T'.heap (locs ++ L9) (cells + mcy) (slots + msy) ls rfl (by rw [e1]; exact hHt) k3 hk hm hl T' rfl X'
  exact ⟨t2, stp t2 a1, b1⟩
/-- a contract out of the walk of its body, for a class of the JDK -/
theorem zMet.mkF {l : Launch} {y : MethodName} {cy : ByteArray} {mL : Nat} {rt : Option FieldType} {dy a b : Nat} {vs : List Value} {g : zG} {h : GH} {P : Option Value → GH → Prop} {L0 : List (Option Value)} (hy : plainFor y = true) (hcat : vs.all (fun v => v.category == 1) = true) (hlen : (lg_sl vs).length ≤ mL) (hL0 : vs.map some ++ List.replicate (mL - vs.length) none = L0)
    (body : ∀ C : ZC, zg C = g → C.2.1 = l → C.2.2.2.2.2.2.2.2.1.name = y.name → zX C cy y.cls mL rt dy a b P → ZP C mL (fun x => x = h) 0 0 L0 0 []) : zMet l y cy mL rt dy a b vs g h P := by
  refine va_MetF (cc := cy) (maxL := mL) (ret := rt) hy rfl ?_
  intro p e s m args below meth c s₁ B hml hv
  obtain ⟨rfl, hK, hH⟩ := hv
  have hts := atoms_spec (ws := ws_ y cy mL rt) B.pre
  have hts' : ∀ w ∈ lw_all, w.before _ s = true := fun w hw => hts w (List.mem_cons_of_mem _ hw)
  have hown : s.vm.findClass y.cls = some m.cls := findClass_of_methodNamed B.named
  have hl := lv_entry vs hlen
  rw [lg_entry_eq]
  refine body (p, l, e, (headSpec (ws_ y cy mL rt) (zrm dy a b)).room, s, m, vs.toArray, below, meth, c, g, MQ below (zQc g P) vs.toArray s a b (zA g)) rfl rfl (name_of_methodNamed B.named B.method).1 ⟨B.exec, B.bytes, hml, hown, hts', B.returns, B.notSynchronized, hK, rfl, fun _ _ _ _ _ hw => hw⟩ h s.heap [] 0 0 _ rfl hH va_S.rf (Nat.le_refl 0) (Nat.le_refl 0) (zL.of_args hl fun i v hi => ?_)
  subst hL0
  have hlt : i < vs.length := by
    rcases Nat.lt_or_ge i vs.length with q | q
    · exact q
    · rw [List.getElem?_append_right (by simpa using q)] at hi
      simp [List.getElem?_replicate] at hi
  rw [List.getElem?_append_left (by simpa using hlt), List.getElem?_map] at hi
  have h9 : vs[i]? = some v := by
    cases hg : vs[i]? with
    | none => rw [hg] at hi; cases hi
    | some w => rw [hg] at hi; simpa using hi
  have := lv_args_at vs 0 i v (fun w hw => by simpa using List.all_eq_true.mp hcat w hw) h9
  simpa using this
/-- a call by an interface -/
theorem z_callF (X : zX C cc own nL ret d mc ms post) {x y : MethodName} {cy : ByteArray} {mL N idx cnt dy mcy msy b ci : Nat} {rt : Option FieldType} {vs st0 : List Value} {r : vw_C}
    (hq : Cond.methodLink own idx x ∈ lw_all) (hsel : Cond.selects r.1 x y ∈ lw_all) (hins : Cond.instanceMethod y ∈ lw_all) (hini : Cond.initialized y.cls ∈ lw_all) (hcode : Cond.code y cy mL rt ∈ lw_all)
    (hdec : Cond.declares x ∈ lw_tbl) (hif : Cond.interfaceMethod x.cls x.cls x.name x.desc ∈ lw_tbl) (hpub : Cond.publicMethod y ∈ lw_tbl) (hunh : Cond.unhidden r.1 x.name x.desc ∈ lw_tbl) (hcas : Cond.castable r.1 x.cls ∈ lw_tbl)
    (hdx : x.cls ≠ "java/lang/invoke/MethodHandle" ∧ x.cls ≠ "java/lang/invoke/VarHandle" ∧ (parseMethodDescriptor x.desc).map (fun d => d.parameters.length) = some N) (hmL : mL ≤ 21)
    (hd : decode cc pc = .ok (.invokeinterface idx cnt, 5)) (hn : pc + 5 = pc') (hdd : dy + 1 ≤ d) (hk : k + mcy ≤ mc) (hm : n + msy ≤ ms) (hst : st0 = vs.reverse ++ vR b :: st) (hlen : vs.length = N) (hcat : (st.map fun v => v.category).sum ≤ 8)
    (hc : zCl[ci]? = some r) (hh : ∀ h, Φ h → ∃ fs, h b = some (zO ci fs))
    (hM : ∀ h, Φ h → zMet C.2.1 y cy mL rt dy mcy msy (vR b :: vs) (zg C) h (fun v h' => ZP C nL (fun x => x = h') (k + mcy) (n + msy) L pc' (v.toList ++ st))) : ZP C nL Φ k n L pc st0 := by
  obtain ⟨p, l, e, R, s, m, args, below, meth, c, g, Q⟩ := C
  obtain ⟨hx, hb, hml, hown, hts, hret, hlk, hK, hR, hQ⟩ := X
  subst hn
  intro h H locs cells slots ls h1 h2 h3 h4 h5 h6
  have hRR : R = zrm d mc ms := hR
  obtain ⟨fs, hfs⟩ := hh h h1
  have hat : va_at g.1 zCl (b, .inr (ci, fs)) H := (h2 b _ hfs).2
  have hbf := hK.facts.2.2.2.2.2.2.1
  have hF : va_Fw r.1 x y s := ⟨hbf _ hdec rfl, hbf _ hif rfl, hbf _ hpub rfl, hbf _ hunh rfl, hbf _ hcas rfl⟩
  have hG : GoodIn lw_all (va_wsF own idx r.1 x y (ws_ y cy mL rt)) := by
    refine lw_app ?_ (lw_meth hcode)
    intro w hw
    simp only [List.mem_cons, List.not_mem_nil, or_false] at hw
    rcases hw with e | e | e | e
    · rw [e]; exact hq
    · rw [e]; exact hsel
    · rw [e]; exact hins
    · rw [e]; exact hini
  refine z_run5 (mcy := mcy) (msy := msy) h3 (by omega) (by omega) h6 (va_runF (As := vs) (rest := st) (hK.facts.1.1 ci r hc).2 ⟨hx, hb, hml, hown, hts⟩ (hM h h1) (va_cwF N hts hG rfl rfl rfl hF hdx ⟨by rw [hRR]; exact hdd, by rw [hRR]; show 8 + (mL + 11) + 40 * dy ≤ 40 * d; omega⟩) ⟨zblind _ _ _, va_recv (q0 := 0) (ci := ci) (fs := fs) hK.facts.1 (zP1 hat) hc rfl, fun U hU hW => ⟨rfl, hK.S hW (by rw [hU]; exact h3), by rw [hU]; exact h2⟩⟩ rfl hlen h6.1 hst (lv_room hcat) hd ⟨by rw [hRR]; show cells + mcy ≤ mc; omega, by rw [hRR]; show slots + msy ≤ ms; omega⟩)
end ZCALLF

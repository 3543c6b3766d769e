/-! CALLS to nest mates, over ghost heaps -/
section ZNEST
variable {C : ZC} {cc : ByteArray} {own : String} {nL : Nat} {ret : Option FieldType} {d mc ms : Nat} {post : Option Value → GH → Prop} {Φ Φ' : GH → Prop} {k n : Nat} {L : List (Option Value)} {pc pc' : Nat} {st : List Value}
theorem z_callSN (X : zX C cc own nL ret d mc ms post) {y : MethodName} {cy : ByteArray} {mL N idx dy mcy msy : Nat} {rt : Option FieldType} {vs st0 : List Value} {host : String} (Y : zYS y cy mL rt N) (hq : Cond.methodLinkNest own idx y host ∈ lw_tbl) (hd : decode cc pc = .ok (.invokestatic idx, 3)) (hn : pc + 3 = pc') (hdd : dy + 1 ≤ d) (hk : k + mcy ≤ mc) (hm : n + msy ≤ ms) (hst : st0 = vs.reverse ++ st) (hlen : vs.length = N) (hcat : (st.map fun v => v.category).sum ≤ 8)
    (hM : ∀ h, Φ h → zMet C.2.1 y cy mL rt dy mcy msy vs (zg C) h (fun v h' => ZP C nL (fun x => x = h') (k + mcy) (n + msy) L pc' (v.toList ++ st))) : ZP C nL Φ k n L pc st0 := by
  obtain ⟨p, l, e, R, s, m, args, below, meth, c, g, Q⟩ := C
  obtain ⟨hx, hb, hml, hown, hts, hret, hlk, hK, hR, hQ⟩ := X
  subst hn
  intro h H locs cells slots ls h1 h2 h3 h4 h5 h6
  obtain ⟨⟨w1, w2, w3⟩, hdy, hmL⟩ := Y
  have hRR : R = zrm d mc ms := hR
  refine z_run (mcy := mcy) (msy := msy) h3 (by omega) (by omega) h6 (va_runSN (As := vs) (rest := st) ⟨hx, hb, hml, hown, hts⟩ (hM h h1) ⟨va_cnB N hts (lw_meth w3) rfl rfl rfl (hK.facts.2.2.2.2.2.2.1 _ hq rfl) (hts _ w2) hdy ⟨by rw [hRR]; exact hdd, by rw [hRR]; show 8 + (mL + 11) + 40 * dy ≤ 40 * d; omega⟩, hts _ w1, trivial⟩ ⟨zblind _ _ _, fun U hU hW => ⟨rfl, hK.S hW (by rw [hU]; exact h3), by rw [hU]; exact h2⟩⟩ rfl hlen h6.1 hst (lv_room hcat) hd ⟨by rw [hRR]; show cells + mcy ≤ mc; omega, by rw [hRR]; show slots + msy ≤ ms; omega⟩)
theorem z_callIN (X : zX C cc own nL ret d mc ms post) {y : MethodName} {cy : ByteArray} {mL N idx dy mcy msy b : Nat} {vs st0 : List Value} {host : String} (Y : zYI y cy mL N) (hq : Cond.methodLinkNest own idx y host ∈ lw_tbl) (hd : decode cc pc = .ok (.invokespecial idx, 3)) (hn : pc + 3 = pc') (hdd : dy + 1 ≤ d) (hk : k + mcy ≤ mc) (hm : n + msy ≤ ms) (hst : st0 = vs.reverse ++ vR b :: st) (hlen : vs.length = N) (hcat : (st.map fun v => v.category).sum ≤ 8)
    (hM : ∀ h, Φ h → zMet C.2.1 y cy mL none dy mcy msy (vR b :: vs) (zg C) h (fun v h' => ZP C nL (fun x => x = h') (k + mcy) (n + msy) L pc' (v.toList ++ st))) : ZP C nL Φ k n L pc st0 := by
  obtain ⟨p, l, e, R, s, m, args, below, meth, c, g, Q⟩ := C
  obtain ⟨hx, hb, hml, hown, hts, hret, hlk, hK, hR, hQ⟩ := X
  subst hn
  intro h H locs cells slots ls h1 h2 h3 h4 h5 h6
  obtain ⟨⟨w1, w2, w3⟩, hdy, hmL, hnm⟩ := Y
  have hRR : R = zrm d mc ms := hR
  refine z_run (mcy := mcy) (msy := msy) h3 (by omega) (by omega) h6 (va_runIN (As := vs) (rest := st) ⟨hx, hb, hml, hown, hts⟩ (hM h h1) ⟨va_cnB N hts (lw_meth w3) rfl rfl rfl (hK.facts.2.2.2.2.2.2.1 _ hq rfl) (hts _ w2) hdy ⟨by rw [hRR]; exact hdd, by rw [hRR]; show 8 + (mL + 11) + 40 * dy ≤ 40 * d; omega⟩, hnm, hts _ w1⟩ ⟨zblind _ _ _, fun U hU hW => ⟨rfl, hK.S hW (by rw [hU]; exact h3), by rw [hU]; exact h2⟩⟩ rfl hlen h6.1 hst (lv_room hcat) hd ⟨by rw [hRR]; show cells + mcy ≤ mc; omega, by rw [hRR]; show slots + msy ≤ ms; omega⟩)
end ZNEST

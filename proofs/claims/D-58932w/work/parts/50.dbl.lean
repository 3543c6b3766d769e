/-! DOUBLES: rows over ghost heaps -/
section ZDBL
variable {C : ZC} {cc : ByteArray} {own : String} {nL : Nat} {ret : Option FieldType} {d mc ms : Nat} {post : Option Value → GH → Prop} {Φ Φ' : GH → Prop} {k n : Nat} {L : List (Option Value)} {pc pc' : Nat} {st : List Value}
theorem z_dconst0 (X : zX C cc own nL ret d mc ms post) (hd : decode cc pc = .ok (.dconst 0, 1)) (hn : pc + 1 = pc') (kk : ZP C nL Φ k n L pc' (.double FP.dconst0 :: st)) : ZP C nL Φ k n L pc st := by
  obtain ⟨p, l, e, R, s, m, args, below, meth, c, g, Q⟩ := C
  obtain ⟨hx, hb, hml, hown, hts, hret, hlk, hK, hR, hQ⟩ := X
  subst hn
  intro h H locs cells slots ls h1 h2 h3 h4 h5 h6
  exact lv_dconst0 hx hb hd (kk h H locs cells slots ls h1 h2 h3 h4 h5 h6)
theorem z_dload_n (X : zX C cc own nL ret d mc ms post) {x : UInt64} {i : Fin 4} (hd : decode cc pc = .ok (.dload_n i, 1)) (hn : pc + 1 = pc') (hL : L[(i : Nat)]? = some (some (.double x))) (kk : ZP C nL Φ k n L pc' (.double x :: st)) : ZP C nL Φ k n L pc st := by
  obtain ⟨p, l, e, R, s, m, args, below, meth, c, g, Q⟩ := C
  obtain ⟨hx, hb, hml, hown, hts, hret, hlk, hK, hR, hQ⟩ := X
  subst hn
  intro h H locs cells slots ls h1 h2 h3 h4 h5 h6
  exact lv_dload_n hx hb hd rfl (h6.2.2 _ _ hL) (kk h H locs cells slots ls h1 h2 h3 h4 h5 h6)
theorem zL.stored2 {ls' : Array Slot} {i : Nat} {v : Value} (hc : zc1 L i = true) (h : lv_has ls' nL ((i, v) :: (zp L).filter (fun q => !(q.1 == i) && (!(q.1 == i + 1) && !(q.1 + 1 == i && q.2.category == 2))))) : zL ls' nL ((L.set i (some v)).set (i + 1) none) := by
  refine ⟨h.1, h.2.1, fun j w hj => ?_⟩
  by_cases hj1 : j = i + 1
  · subst hj1
    have hlt := (List.getElem?_eq_some_iff.mp hj).1
    rw [List.length_set] at hlt
    rw [List.getElem?_set_self hlt] at hj
    cases hj
  rw [List.getElem?_set_ne (fun e => hj1 e.symm)] at hj
  by_cases hji : j = i
  · subst hji
    have hlt : j < (L.set j (some v)).length := (List.getElem?_eq_some_iff.mp hj).1
    rw [List.length_set] at hlt
    rw [List.getElem?_set_self hlt] at hj
    cases hj
    exact h.2.2 (j, v) List.mem_cons_self
  · rw [List.getElem?_set_ne (fun e => hji e.symm)] at hj
    refine h.2.2 (j, w) (List.mem_cons_of_mem _ (List.mem_filter.mpr ⟨mem_zp.mpr hj, ?_⟩))
    have h1 : (j == i) = false := by simpa using hji
    have h9 : (j == i + 1) = false := by simpa using hj1
    simp only [h1, h9, Bool.not_false, Bool.true_and, Bool.not_eq_true', Bool.and_eq_false_iff]
    by_cases h2 : j + 1 = i
    · subst h2
      right
      have hc : (match L[j]? with
        | some (some w) => w.category == 1
        | _ => true) = true := hc
      rw [hj] at hc
      have hc : w.category = 1 := by simpa using hc
      rw [hc]
      rfl
    · left
      simpa using h2
theorem z_dstore_n (X : zX C cc own nL ret d mc ms post) {x : UInt64} {i : Fin 4} (hd : decode cc pc = .ok (.dstore_n i, 1)) (hn : pc + 1 = pc') (hi : (i : Nat) + 1 < nL) (hc : zc1 L (i : Nat) = true) (kk : ZP C nL Φ k n ((L.set (i : Nat) (some (.double x))).set ((i : Nat) + 1) none) pc' st) : ZP C nL Φ k n L pc (.double x :: st) := by
  obtain ⟨p, l, e, R, s, m, args, below, meth, c, g, Q⟩ := C
  obtain ⟨hx, hb, hml, hown, hts, hret, hlk, hK, hR, hQ⟩ := X
  subst hn
  intro h H locs cells slots ls h1 h2 h3 h4 h5 h6
  exact lv_dstore_n hx hb hd rfl h6.has hi rfl (fun ls' hl => kk h H locs cells slots ls' h1 h2 h3 h4 h5 (zL.stored2 hc hl))
theorem z_i2d (X : zX C cc own nL ret d mc ms post) {z : Int} (hd : decode cc pc = .ok (.i2d, 1)) (hn : pc + 1 = pc') (kk : ZP C nL Φ k n L pc' (.double (FP.i2d (jI z)) :: st)) : ZP C nL Φ k n L pc (vI z :: st) := by
  obtain ⟨p, l, e, R, s, m, args, below, meth, c, g, Q⟩ := C
  obtain ⟨hx, hb, hml, hown, hts, hret, hlk, hK, hR, hQ⟩ := X
  subst hn
  intro h H locs cells slots ls h1 h2 h3 h4 h5 h6
  exact lv_i2d hx hb hd (kk h H locs cells slots ls h1 h2 h3 h4 h5 h6)
theorem z_dadd (X : zX C cc own nL ret d mc ms post) {x y : UInt64} (hd : decode cc pc = .ok (.dadd, 1)) (hn : pc + 1 = pc') (hne : vf_n64 (FP.dadd x y)) (kk : ZP C nL Φ k n L pc' (.double (FP.dadd x y) :: st)) : ZP C nL Φ k n L pc (.double y :: .double x :: st) := by
  obtain ⟨p, l, e, R, s, m, args, below, meth, c, g, Q⟩ := C
  obtain ⟨hx, hb, hml, hown, hts, hret, hlk, hK, hR, hQ⟩ := X
  subst hn
  intro h H locs cells slots ls h1 h2 h3 h4 h5 h6
  exact lv_dadd hx hb hd hne (kk h H locs cells slots ls h1 h2 h3 h4 h5 h6)
theorem z_ddiv (X : zX C cc own nL ret d mc ms post) {x y : UInt64} (hd : decode cc pc = .ok (.ddiv, 1)) (hn : pc + 1 = pc') (hne : vf_n64 (FP.ddiv x y)) (kk : ZP C nL Φ k n L pc' (.double (FP.ddiv x y) :: st)) : ZP C nL Φ k n L pc (.double y :: .double x :: st) := by
  obtain ⟨p, l, e, R, s, m, args, below, meth, c, g, Q⟩ := C
  obtain ⟨hx, hb, hml, hown, hts, hret, hlk, hK, hR, hQ⟩ := X
  subst hn
  intro h H locs cells slots ls h1 h2 h3 h4 h5 h6
  exact lv_ddiv hx hb hd hne (kk h H locs cells slots ls h1 h2 h3 h4 h5 h6)
theorem z_dreturn (X : zX C cc own nL (some .double) d mc ms post) {a : UInt64} (hd : decode cc pc = .ok (.dreturn, 1)) (hk : k ≤ mc) (hn : n ≤ ms) (hp : ∀ h, Φ h → post (some (.double a)) h) : ZP C nL Φ k n L pc [.double a] := by
  obtain ⟨p, l, e, R, s, m, args, below, meth, c, g, Q⟩ := C
  obtain ⟨hx, hb, hml, hown, hts, hret, hlk, hK, hR, hQ⟩ := X
  intro h H locs cells slots ls h1 h2 h3 h4 h5 h6
  refine hQ H locs cells slots _ ?_
  refine W.widen (k := mc) (n := ms) (Nat.le_trans h4 hk) (Nat.le_trans h5 hn) ?_
  exact W.dret (v := a) hx hb hret (fun t ht hW => ⟨⟨_, h, rfl, hp h h1, by rw [ht]; exact h2⟩, h3.F ht⟩) h3.2.2 hd
end ZDBL

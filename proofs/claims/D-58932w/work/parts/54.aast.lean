/-! STORES of references into arrays; casts, over ghost heaps -/
section ZAAST
variable {C : ZC} {cc : ByteArray} {own : String} {nL : Nat} {ret : Option FieldType} {d mc ms : Nat} {post : Option Value → GH → Prop} {Φ Φ' : GH → Prop} {k n : Nat} {L : List (Option Value)} {pc pc' : Nat} {st : List Value}
/-- aastore of an object -/
theorem z_aastO (X : zX C cc own nL ret d mc ms post) {a N t t0 ci v : Nat} {Cn : String} {r : vw_C} {f : Nat → Option Nat} {i : Int} (ht : ∀ b, (zTys b)[t0]? = some (b t, .object Cn)) (hc : zCl[ci]? = some r) (hca : Cond.castable r.1 Cn ∈ lw_tbl) (hh : ∀ h, Φ h → h a = some (zAq t N f)) (hv : ∀ h, Φ h → ∃ fs, h v = some (zO ci fs)) (hi : 0 ≤ i ∧ i < N) (hN : N ≤ 2147483647)
    (hΦ : ∀ h, Φ h → Φ' (hset h a (zAq t N (fup f i.toNat (some v))))) (hd : decode cc pc = .ok (.aastore, 1)) (hn : pc + 1 = pc') (kk : ZP C nL Φ' k n L pc' st) : ZP C nL Φ k n L pc (vR v :: vI i :: vR a :: st) := by
  obtain ⟨p, l, e, R, s, m, args, below, meth, c, g, Q⟩ := C
  obtain ⟨hx, hb, hml, hown, hts, hret, hlk, hK, hR, hQ⟩ := X
  subst hn
  intro h H locs cells slots ls h1 h2 h3 h4 h5 h6
  obtain ⟨hbase, hat⟩ := h2 a _ (hh h h1)
  obtain ⟨fs, hfs⟩ := hv h h1
  obtain ⟨r', hr', cellV, g1, g2, g3, -⟩ := (h2 v _ hfs).2
  have hcl := (hK.facts.1.1 ci r hc).2
  obtain ⟨kA, comp, k1, k2, k3, -⟩ := (hK.facts.1.2 t0 _ (ht g.2.2)).2
  obtain ⟨kE, hkE, -⟩ := Vm.findClass_spec k3
  obtain ⟨c0, t1, f1, f2, f3⟩ := Cond.castable_spec (va_Nw.use (A := args) rfl (hK.facts.2.2.2.2.2.2.1 _ hca rfl))
  cases hcl.1.symm.trans f1
  cases k3.symm.trans f2
  obtain ⟨kC, hkC, -⟩ := hcl.2
  have hin := jI_in hi hN
  refine W.aast hx hb hat (fun q h => by cases h) (fun h => by cases h) k1 k2 rfl hkE ⟨fun q => hin (Or.inl q), by show _ < (arrV _ _ _).slots.size; rw [arrV_size]; exact Nat.not_le.mp fun q => hin (Or.inr q)⟩ g1 (fun q h => by rw [g3] at h; cases h) (by rw [g2]; exact hkC) (by rw [g2]; exact f3) rfl rfl hd fun H1 e z2 oq => ?_
  refine kk _ H1 _ cells slots ls (hΦ h h1) (h2.set hbase ?_ oq) (h3.put z2 oq hbase) h4 h5 h6
  show H1[a]? = some (vp_cell _ _)
  rw [e, vp_cell_q, vp_cell_q, arrV_store, jI_clamp ⟨hi.1, by omega⟩]
  congr 2
  funext q
  unfold fup
  by_cases hq : q = i.toNat
  · subst hq
    simp [updV, va_rf]
  · simp [updV, hq]
/-- checkcast of an object of a known class -/
theorem z_castY (X : zX C cc own nL ret d mc ms post) {a ci idx : Nat} {r : vw_C} {nm : String} (hcl : Cond.classLink own idx nm ∈ lw_all) (hc : zCl[ci]? = some r) (hca : Cond.castable r.1 nm ∈ lw_tbl) (hv : ∀ h, Φ h → ∃ fs, h a = some (zO ci fs)) (hd : decode cc pc = .ok (.checkcast idx, 3)) (hn : pc + 3 = pc')
    (kk : ZP C nL Φ k n L pc' (vR a :: st)) : ZP C nL Φ k n L pc (vR a :: st) := by
  obtain ⟨p, l, e, R, s, m, args, below, meth, c, g, Q⟩ := C
  obtain ⟨hx, hb, hml, hown, hts, hret, hlk, hK, hR, hQ⟩ := X
  subst hn
  intro h H locs cells slots ls h1 h2 h3 h4 h5 h6
  obtain ⟨fs, hfs⟩ := hv h h1
  have h7 : va_at g.1 zCl (a, .inr (ci, fs)) H := (h2 a _ hfs).2
  exact va_castY hx hb hown (hts _ hcl) (hK.facts.2.2.2.2.2.2.1 _ hca rfl) (va_recv (q0 := 0) (ci := ci) (fs := fs) hK.facts.1 (zP1 h7) hc rfl) hd (kk h H locs cells slots ls h1 h2 h3 h4 h5 h6)
/-- getstatic of what stands fast -/
theorem z_gets (X : zX C cc own nL ret d mc ms post) {Cn nm ds ref : String} {idx : Nat} {v : Value} (hZ : ∀ U, zFacts (zg C) U → va_Z Cn nm ds v (zA (zg C)) U U.heap) (hq : Cond.fieldLink own idx ref nm ds ∈ lw_all) (hsame : ref = Cn) (hd : decode cc pc = .ok (.getstatic idx, 3)) (hn : pc + 3 = pc')
    (kk : ZP C nL Φ k n L pc' (v :: st)) : ZP C nL Φ k n L pc st := by
  obtain ⟨p, l, e, R, s, m, args, below, meth, c, g, Q⟩ := C
  obtain ⟨hx, hb, hml, hown, hts, hret, hlk, hK, hR, hQ⟩ := X
  subst hn hsame
  intro h H locs cells slots ls h1 h2 h3 h4 h5 h6
  exact va_gets hx hb (hZ s hK.facts) h3 hown (hts _ hq) (fun _ h => h) hd (kk h H locs cells slots ls h1 h2 h3 h4 h5 h6)
/-- acmp -/
theorem z_acmp_eq (X : zX C cc own nL ret d mc ms post) {rx ry : Option Nat} {off : Int} {tgt : Nat} (hd : decode cc pc = .ok (.if_acmp .eq off, 3)) (hn : pc + 3 = pc') (ht : (pc : Int) + off = (tgt : Int)) (kt : rx = ry → ZP C nL Φ k n L tgt st) (kf : rx ≠ ry → ZP C nL Φ k n L pc' st) : ZP C nL Φ k n L pc (va_rf ry :: va_rf rx :: st) := by
  obtain ⟨p, l, e, R, s, m, args, below, meth, c, g, Q⟩ := C
  obtain ⟨hx, hb, hml, hown, hts, hret, hlk, hK, hR, hQ⟩ := X
  subst hn
  intro h H locs cells slots ls h1 h2 h3 h4 h5 h6
  exact lv_acmp_eq hx hb hd ht (fun q => kt q h H locs cells slots ls h1 h2 h3 h4 h5 h6) (fun q => kf q h H locs cells slots ls h1 h2 h3 h4 h5 h6)
end ZAAST

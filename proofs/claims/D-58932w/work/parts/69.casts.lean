/-! CASTS to an object's own class -/
section ZCASTS
variable {C : ZC} {cc : ByteArray} {own : String} {nL : Nat} {ret : Option FieldType} {d mc ms : Nat} {post : Option Value → GH → Prop} {k n : Nat} {L : List (Option Value)} {pc pc' : Nat} {st : List Value} {h1 : GH}
theorem z_castS1 (X : zX C cc own nL ret d mc ms post) {a ci idx N : Nat} {T : u_T} {nm : String} (hcl : Cond.classLink own idx nm ∈ lw_all) (hc : zCl[ci]? = some (nm, T, N)) (hv : ∃ fs, h1 a = some (zO ci fs)) (hd : decode cc pc = .ok (.checkcast idx, 3)) (hn : pc + 3 = pc')
    (kk : ZP C nL (zAt h1) k n L pc' (vR a :: st)) : ZP C nL (zAt h1) k n L pc (vR a :: st) := by
  obtain ⟨p, l, e, R, s, m, args, below, meth, c, g, Q⟩ := C
  obtain ⟨hx, hb, hml, hown, hts, hret, hlk, hK, hR, hQ⟩ := X
  subst hn
  intro h H locs cells slots ls g1 h2 h3 h4 h5 h6
  have g1 : h = h1 := g1
  subst g1
  obtain ⟨fs, hfs⟩ := hv
  exact va_castS hx hb hown (hts _ hcl) (hK.facts.1.1 ci _ hc).2 (z_recv hK h2 hc hfs) hd (kk h H locs cells slots ls rfl h2 h3 h4 h5 h6)
theorem z_instS1 (X : zX C cc own nL ret d mc ms post) {a ci idx N : Nat} {T : u_T} {nm : String} (hcl : Cond.classLink own idx nm ∈ lw_all) (hc : zCl[ci]? = some (nm, T, N)) (hv : ∃ fs, h1 a = some (zO ci fs)) (hd : decode cc pc = .ok (.instanceof idx, 3)) (hn : pc + 3 = pc')
    (kk : ZP C nL (zAt h1) k n L pc' (vI 1 :: st)) : ZP C nL (zAt h1) k n L pc (vR a :: st) := by
  obtain ⟨p, l, e, R, s, m, args, below, meth, c, g, Q⟩ := C
  obtain ⟨hx, hb, hml, hown, hts, hret, hlk, hK, hR, hQ⟩ := X
  subst hn
  intro h H locs cells slots ls g1 h2 h3 h4 h5 h6
  have g1 : h = h1 := g1
  subst g1
  obtain ⟨fs, hfs⟩ := hv
  exact va_instS hx hb hown (hts _ hcl) (hK.facts.1.1 ci _ hc).2 (z_recv hK h2 hc hfs) hd (kk h H locs cells slots ls rfl h2 h3 h4 h5 h6)
end ZCASTS

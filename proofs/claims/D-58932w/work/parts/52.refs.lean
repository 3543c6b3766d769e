/-! REFERENCES: arrays of references, lengths, over ghost heaps -/
section ZREFS
variable {C : ZC} {cc : ByteArray} {own : String} {nL : Nat} {ret : Option FieldType} {d mc ms : Nat} {post : Option Value → GH → Prop} {Φ Φ' : GH → Prop} {k n : Nat} {L : List (Option Value)} {pc pc' : Nat} {st : List Value}
/-- aaload -/
theorem z_aald (X : zX C cc own nL ret d mc ms post) {a N t t0 : Nat} {Cn : String} {f : Nat → Option Nat} {i : Int} (ht : ∀ b, (zTys b)[t0]? = some (b t, .object Cn)) (hh : ∀ h, Φ h → h a = some (zAq t N f)) (hi : 0 ≤ i ∧ i < N) (hN : N ≤ 2147483647) (hd : decode cc pc = .ok (.aaload, 1)) (hn : pc + 1 = pc')
    (kk : ZP C nL Φ k n L pc' (va_rf (f i.toNat) :: st)) : ZP C nL Φ k n L pc (vI i :: vR a :: st) := by
  obtain ⟨p, l, e, R, s, m, args, below, meth, c, g, Q⟩ := C
  obtain ⟨hx, hb, hml, hown, hts, hret, hlk, hK, hR, hQ⟩ := X
  subst hn
  intro h H locs cells slots ls h1 h2 h3 h4 h5 h6
  have h7 : va_at g.1 zCl (a, .inl (g.2.2 t, N, .inr (.inr (.inr (.inr f))))) H := (h2 a _ (hh h h1)).2
  refine va_aldq (i := jI i) hx hb hK.facts.1 (zP1 h7) 0 t0 rfl (ht g.2.2) (jI_in hi hN) hd ?_
  rw [jI_clamp ⟨hi.1, by omega⟩]
  exact kk h H locs cells slots ls h1 h2 h3 h4 h5 h6
/-- arraylength -/
theorem z_alen (X : zX C cc own nL ret d mc ms post) {a N t t0 : Nat} {x : (Nat → Int32) ⊕ (Nat → Int64) ⊕ (Nat → UInt32) ⊕ (Nat → UInt64) ⊕ (Nat → Option Nat)} {ty : FieldType} (ht : ∀ b, (zTys b)[t0]? = some (b t, ty)) (hh : ∀ h, Φ h → h a = some (.inl (t, N, x))) (hd : decode cc pc = .ok (.arraylength, 1)) (hn : pc + 1 = pc')
    (kk : ZP C nL Φ k n L pc' (vI (N : Int) :: st)) : ZP C nL Φ k n L pc (vR a :: st) := by
  obtain ⟨p, l, e, R, s, m, args, below, meth, c, g, Q⟩ := C
  obtain ⟨hx, hb, hml, hown, hts, hret, hlk, hK, hR, hQ⟩ := X
  subst hn
  intro h H locs cells slots ls h1 h2 h3 h4 h5 h6
  have h7 : va_at g.1 zCl (a, .inl (g.2.2 t, N, x)) H := (h2 a _ (hh h h1)).2
  exact va_alen (x := (N, x)) hx hb hK.facts.1 (zP1 h7) 0 t0 rfl (ht g.2.2) (jI_nat N) hd (kk h H locs cells slots ls h1 h2 h3 h4 h5 h6)
/-- anewarray of Objects (the class book's number t) -/
theorem z_newq (X : zX C cc own nL ret d mc ms post) {N t t0 idx : Nat} {Cn : String} (ht : ∀ b, (zTys b)[t0]? = some (b t, .object Cn)) (hov : Cond.arrayOver (.object Cn) ∈ lw_tbl) (hcl : Cond.classLink own idx Cn ∈ lw_all) (hN : N ≤ 100000) (hd : decode cc pc = .ok (.anewarray idx, 3)) (hn : pc + 3 = pc') (hk : k + 1 ≤ mc) (hm : n + N ≤ ms)
    (kk : ∀ q, ZP C nL (hnew Φ q (zAq t N fun _ => none)) (k + 1) (n + N) L pc' (vR q :: st)) : ZP C nL Φ k n L pc (vI (N : Int) :: st) := by
  obtain ⟨p, l, e, R, s, m, args, below, meth, c, g, Q⟩ := C
  obtain ⟨hx, hb, hml, hown, hts, hret, hlk, hK, hR, hQ⟩ := X
  subst hn
  intro h H locs cells slots ls h1 h2 h3 h4 h5 h6
  have hR' : R = zrm d mc ms := hR
  subst hR'
  have hover : va_AO Cn s := hK.facts.2.2.2.2.2.2.1 _ hov rfl
  obtain ⟨kA, comp, r1, r2, r3, r4⟩ := (hK.facts.1.2 t0 _ (ht g.2.2)).2
  refine W.anew (n := jI (N : Int)) hx hb hown (hts _ hcl) (va_AO.use hover) rfl hd rfl (by rw [jI_lt0 (by unfold rng; omega)]; omega) (by rw [jI_clamp (by omega), Int.toNat_natCast]; omega) (by show cells + 1 ≤ mc; omega) (by rw [jI_clamp (by omega), Int.toNat_natCast]; show slots + N ≤ ms; omega) fun cA kA' comp' f1 f2 f3 f4 => ?_
  rw [jI_clamp (by omega), Int.toNat_natCast]
  have ec : cA = g.2.2 t := Option.some.inj (f1.symm.trans r4)
  subst ec
  generalize hH1 : H.push ({ cls := g.2.2 t, slots := Array.replicate N .null, vm := .none } : Cell) = H1
  have z1 : H1.size = H.size + 1 := by rw [← hH1, Array.size_push]
  have e1 : H1[H.size]? = some (arrV (g.2.2 t) N (fun _ => .null)) := by rw [← hH1, Array.getElem?_push_size, ← arrV_new]
  have o1 : ∀ q : Nat, q < H.size → H1[q]? = H[q]? := fun q hq => by rw [← hH1, Array.getElem?_push, if_neg (Nat.ne_of_lt hq)]
  exact kk H.size (hset h H.size (zAq t N fun _ => none)) H1 locs (cells + 1) (slots + N) ls ⟨h, h1, h2.none (Nat.le_refl _), rfl⟩ (h2.push rfl (Nat.le_trans hK.1 h3.1) e1 o1) ⟨by have := h3.1; omega, fun x a b => (o1 x (Nat.lt_of_lt_of_le a h3.1)).trans (h3.2.1 x a b), h3.2.2⟩ (by omega) (by omega) h6
end ZREFS

/-! NEW OBJECTS, stores of references, over ghost heaps -/
section ZNEWO
variable {C : ZC} {cc : ByteArray} {own : String} {nL : Nat} {ret : Option FieldType} {d mc ms : Nat} {post : Option Value → GH → Prop} {Φ Φ' : GH → Prop} {k n : Nat} {L : List (Option Value)} {pc pc' : Nat} {st : List Value}
/-- new -/
theorem z_new (X : zX C cc own nL ret d mc ms post) {Cn : String} {T : u_T} {N ci idx : Nat} {fs : List Value} (hin : ∀ w ∈ u_ws Cn T N, w ∈ lw_all) (ty : Nat → FieldType) (hty : ∀ j, j < N → parseFieldDescriptor (T j).2.2.1 = some (ty j)) (hcl : Cond.classLink own idx Cn ∈ lw_all) (hinst : Cond.instantiable Cn N ∈ lw_all) (hini : Cond.initialized Cn ∈ lw_all) (hc : zCl[ci]? = some (Cn, T, N)) (hfs : ∀ j, j < N → defaultValue (ty j) = vp_V fs j)
    (hd : decode cc pc = .ok (.new idx, 3)) (hn : pc + 3 = pc') (hk : k + 1 ≤ mc) (hm : n + N ≤ ms) (kk : ∀ q, ZP C nL (hnew Φ q (zO ci fs)) (k + 1) (n + N) L pc' (vR q :: st)) : ZP C nL Φ k n L pc st := by
  obtain ⟨p, l, e, R, s, m, args, below, meth, c, g, Q⟩ := C
  obtain ⟨hx, hb, hml, hown, hts, hret, hlk, hK, hR, hQ⟩ := X
  subst hn
  intro h H locs cells slots ls h1 h2 h3 h4 h5 h6
  have hR' : R = zrm d mc ms := hR
  subst hR'
  have hKn := hK.facts.1.1 ci _ hc
  refine W.newcK hx hb hown (hts _ hcl) (hts _ hinst) (hts _ hini) rfl hd (by show cells + 1 ≤ mc; omega) (by show slots + N ≤ ms; omega) hKn.2.1 rfl fun H1 kC hkC e1 z1 o1 => ?_
  exact kk H.size (hset h H.size (zO ci fs)) H1 locs (cells + 1) (slots + N) ls ⟨h, h1, h2.none (Nat.le_refl _), rfl⟩ (h2.push rfl (Nat.le_trans hK.1 h3.1) ⟨_, hc, (u_born ty hts hin hKn hkC e1 hty).to hfs⟩ o1) ⟨by have := h3.1; omega, fun x a b => (o1 x (Nat.lt_of_lt_of_le a h3.1)).trans (h3.2.1 x a b), h3.2.2⟩ (by omega) (by omega) h6
def fup (f : Nat → Option Nat) (i : Nat) (v : Option Nat) : Nat → Option Nat := fun j => if j = i then v else f j
/-- aastore of null -/
theorem z_aastN (X : zX C cc own nL ret d mc ms post) {a N t t0 : Nat} {Cn : String} {f : Nat → Option Nat} {i : Int} (ht : ∀ b, (zTys b)[t0]? = some (b t, .object Cn)) (hh : ∀ h, Φ h → h a = some (zAq t N f)) (hi : 0 ≤ i ∧ i < N) (hN : N ≤ 2147483647) (hΦ : ∀ h, Φ h → Φ' (hset h a (zAq t N (fup f i.toNat none)))) (hd : decode cc pc = .ok (.aastore, 1)) (hn : pc + 1 = pc')
    (kk : ZP C nL Φ' k n L pc' st) : ZP C nL Φ k n L pc (.null :: vI i :: vR a :: st) := by
  obtain ⟨p, l, e, R, s, m, args, below, meth, c, g, Q⟩ := C
  obtain ⟨hx, hb, hml, hown, hts, hret, hlk, hK, hR, hQ⟩ := X
  subst hn
  intro h H locs cells slots ls h1 h2 h3 h4 h5 h6
  obtain ⟨hbase, hat⟩ := h2 a _ (hh h h1)
  have hty := (hK.facts.1.2 t0 _ (ht g.2.2)).1
  refine va_WaastN (C := Cn) hx hb hat (hty N (fun j => va_rf (f j))) (fun q => by cases q) (by show ¬ (jI i < 0 ∨ (arrV _ _ _).slots.size ≤ _); rw [arrV_size]; exact jI_in hi hN) rfl rfl hd fun H1 e z2 oq => ?_
  refine kk _ H1 _ cells slots ls (hΦ h h1) (h2.set hbase ?_ oq) (h3.put z2 oq hbase) h4 h5 h6
  show H1[a]? = some (vp_cell _ _)
  rw [e, vp_cell_q, vp_cell_q, arrV_store, jI_clamp ⟨hi.1, by omega⟩]
  congr 2
  funext q
  unfold fup
  by_cases hq : q = i.toNat
  · subst hq
    simp [updV, va_rf]
  · simp [updV, hq]
end ZNEWO

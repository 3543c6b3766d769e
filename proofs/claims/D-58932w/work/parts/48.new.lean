/-! NEW ARRAYS over ghost heaps -/
section ZNEW
variable {C : ZC} {cc : ByteArray} {own : String} {nL : Nat} {ret : Option FieldType} {d mc ms : Nat} {post : Option Value → GH → Prop} {Φ Φ' : GH → Prop} {k n : Nat} {L : List (Option Value)} {pc pc' : Nat} {st : List Value}
/-- ghost heaps with one more cell -/
def hnew (Φ : GH → Prop) (q : Nat) (e : zE) : GH → Prop := fun h' => ∃ h, Φ h ∧ h q = none ∧ h' = hset h q e
theorem zH.push {g : zG} {h : GH} {H H1 : Heap} {q : Nat} {e : zE} (hH : zH g h H) (hq : H.size = q) (hb : g.2.1 ≤ q) (h1 : zat g q e H1) (ho : ∀ x, x < q → H1[x]? = H[x]?) : zH g (hset h q e) H1 := by
  intro x e2 h2
  by_cases hx : x = q
  · subst hx
    rw [hset_s] at h2
    cases h2
    exact ⟨hb, h1⟩
  · rw [hset_n hx] at h2
    have hl := hH.lt h2
    exact ⟨(hH x e2 h2).1, (hH x e2 h2).2.kept (ho x (by omega))⟩
/-- newarray of ints -/
theorem z_newi (X : zX C cc own nL ret d mc ms post) {N : Nat} (hN : N ≤ 100000) (hd : decode cc pc = .ok (.newarray .int, 2)) (hn : pc + 2 = pc') (hk : k + 1 ≤ mc) (hm : n + N ≤ ms)
    (kk : ∀ q, ZP C nL (hnew Φ q (zAi 10 N fun _ => 0)) (k + 1) (n + N) L pc' (vR q :: st)) : ZP C nL Φ k n L pc (vI (N : Int) :: st) := by
  obtain ⟨p, l, e, R, s, m, args, below, meth, c, g, Q⟩ := C
  obtain ⟨hx, hb, hml, hown, hts, hret, hlk, hK, hR, hQ⟩ := X
  subst hn
  intro h H locs cells slots ls h1 h2 h3 h4 h5 h6
  have hR' : R = zrm d mc ms := hR
  subst hR'
  have hA : (Cond.arrayClass (Op.newarray.typeOf .int)).before args s = true := hts _ q1397
  have hRA : va_RA s (g.2.2 10) .int := (hK.facts.1.2 0 _ rfl).2
  refine va_newaK hx hb hA rfl hd rfl (n := jI (N : Int)) (N := N) (by rw [jI_lt0 (by unfold rng; omega)]; omega) (by rw [jI_clamp (by omega)]; exact Int.toNat_natCast N) (by show N * 4 ≤ 536870912; omega) (by show cells + 1 ≤ mc; omega) (by show slots + N ≤ ms; omega) rfl fun H1 cA e1 z1 o1 hAr hNm => ?_
  have ec : cA = g.2.2 10 := Option.some.inj (hNm.symm.trans hRA)
  subst ec
  refine kk H.size (hset h H.size (zAi 10 N fun _ => 0)) H1 locs (cells + 1) (slots + N) ls ⟨h, h1, h2.none (Nat.le_refl _), rfl⟩ (h2.push rfl (Nat.le_trans hK.1 h3.1) e1 o1) ⟨by have := h3.1; omega, fun x a b => (o1 x (Nat.lt_of_lt_of_le a h3.1)).trans (h3.2.1 x a b), h3.2.2⟩ (by omega) (by omega) h6
end ZNEW

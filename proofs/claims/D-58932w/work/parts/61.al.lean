/-! ArrayList, over ghost heaps -/
section ZAL
theorem if_neg_or_eq {a b : Int} (h : b ≤ a) : (if a < b then a else b) = b := if_neg (by omega)
theorem Y_J4_max : zYS yJ4_max cJ4_max 2 (some .int) 2 := ⟨⟨q324, q120, q325⟩, by decide +kernel, by decide⟩
set_option maxRecDepth 100000 in
theorem c_J4_max (l : Launch) (g : zG) (h : GH) (a b : Int) (ha : rng a) (hb : rng b) : zPur l yJ4_max cJ4_max 2 (some .int) 1 [vI a, vI b] g h (some (vI (if a < b then b else a))) := by
  refine zMet.mkF (L0 := [some (vI a), some (vI b)]) (by decide +kernel) rfl (Nat.le_of_ble_eq_true rfl) rfl (fun C hg hl hnm X => ?_)
  subst hg hl
  refine z_iload_n (pc' := 1) X dJ4_max_0 rfl rfl ?_
  refine z_iload_n (pc' := 2) X dJ4_max_1 rfl rfl ?_
  refine z_icmp_lt (tgt := 9) (pc' := 5) X (by first | assumption | omega) (by first | assumption | omega) dJ4_max_2 rfl (by decide) (fun c2 => ?_) (fun c2 => ?_)
  · refine z_iload_n (pc' := 10) X dJ4_max_9 rfl rfl ?_
    refine z_iret1 X dJ4_max_10 (Nat.le_of_ble_eq_true rfl) (Nat.le_of_ble_eq_true rfl) ?_
    exact ⟨by rw [if_pos c2], rfl⟩
  · refine z_iload_n (pc' := 6) X dJ4_max_5 rfl rfl ?_
    refine z_goto (tgt := 10) X dJ4_max_6 (by decide) ?_
    refine z_iret1 X dJ4_max_10 (Nat.le_of_ble_eq_true rfl) (Nat.le_of_ble_eq_true rfl) ?_
    exact ⟨by rw [if_neg (by omega)], rfl⟩
theorem Y_J4_min : zYS yJ4_min cJ4_min 2 (some .int) 2 := ⟨⟨q373, q120, q374⟩, by decide +kernel, by decide⟩
set_option maxRecDepth 100000 in
theorem c_J4_min (l : Launch) (g : zG) (h : GH) (a b : Int) (ha : rng a) (hb : rng b) : zPur l yJ4_min cJ4_min 2 (some .int) 1 [vI a, vI b] g h (some (vI (if b < a then b else a))) := by
  refine zMet.mkF (L0 := [some (vI a), some (vI b)]) (by decide +kernel) rfl (Nat.le_of_ble_eq_true rfl) rfl (fun C hg hl hnm X => ?_)
  subst hg hl
  refine z_iload_n (pc' := 1) X dJ4_min_0 rfl rfl ?_
  refine z_iload_n (pc' := 2) X dJ4_min_1 rfl rfl ?_
  refine z_icmp_gt (tgt := 9) (pc' := 5) X (by first | assumption | omega) (by first | assumption | omega) dJ4_min_2 rfl (by decide) (fun c2 => ?_) (fun c2 => ?_)
  · refine z_iload_n (pc' := 10) X dJ4_min_9 rfl rfl ?_
    refine z_iret1 X dJ4_min_10 (Nat.le_of_ble_eq_true rfl) (Nat.le_of_ble_eq_true rfl) ?_
    exact ⟨by rw [if_pos c2], rfl⟩
  · refine z_iload_n (pc' := 6) X dJ4_min_5 rfl rfl ?_
    refine z_goto (tgt := 10) X dJ4_min_6 (by decide) ?_
    refine z_iret1 X dJ4_min_10 (Nat.le_of_ble_eq_true rfl) (Nat.le_of_ble_eq_true rfl) ?_
    exact ⟨by rw [if_neg (by omega)], rfl⟩
theorem Y_J18_checkIndex : zYS yJ18_checkIndex cJ18_checkIndex 3 (some .int) 3 := ⟨⟨q561, q140, q562⟩, by decide +kernel, by decide⟩
set_option maxRecDepth 100000 in
theorem c_J18_checkIndex (l : Launch) (g : zG) (h : GH) (i n : Int) (hi : 0 ≤ i ∧ i < n) (hn : n ≤ 2147483647) : zPur l yJ18_checkIndex cJ18_checkIndex 3 (some .int) 1 [vI i, vI n, .null] g h (some (vI i)) := by
  refine zMet.mkF (L0 := [some (vI i), some (vI n), some (.null)]) (by decide +kernel) rfl (Nat.le_of_ble_eq_true rfl) rfl (fun C hg hl hnm X => ?_)
  subst hg hl
  refine z_iload_n (pc' := 1) X dJ18_checkIndex_0 rfl rfl ?_
  refine z_if_lt (tgt := 9) (pc' := 4) X (by first | assumption | omega) dJ18_checkIndex_1 rfl (by decide) (fun c1 => ?_) (fun c1 => ?_)
  · exact absurd c1 (by omega)
  · refine z_iload_n (pc' := 5) X dJ18_checkIndex_4 rfl rfl ?_
    refine z_iload_n (pc' := 6) X dJ18_checkIndex_5 rfl rfl ?_
    refine z_icmp_lt (tgt := 16) (pc' := 9) X (by first | assumption | omega) (by first | assumption | omega) dJ18_checkIndex_6 rfl (by decide) (fun c6 => ?_) (fun c6 => ?_)
    · refine z_iload_n (pc' := 17) X dJ18_checkIndex_16 rfl rfl ?_
      refine z_iret1 X dJ18_checkIndex_17 (Nat.le_of_ble_eq_true rfl) (Nat.le_of_ble_eq_true rfl) ?_
      exact ⟨rfl, rfl⟩
    · exact absurd c6 (by omega)
theorem Y_J17_checkIndex : zYS yJ17_checkIndex cJ17_checkIndex 2 (some .int) 2 := ⟨⟨q558, q139, q559⟩, by decide +kernel, by decide⟩
set_option maxRecDepth 100000 in
theorem c_J17_checkIndex (l : Launch) (g : zG) (h : GH) (i n : Int) (hi : 0 ≤ i ∧ i < n) (hn : n ≤ 2147483647) : zPur l yJ17_checkIndex cJ17_checkIndex 2 (some .int) 2 [vI i, vI n] g h (some (vI i)) := by
  refine zMet.mkF (L0 := [some (vI i), some (vI n)]) (by decide +kernel) rfl (Nat.le_of_ble_eq_true rfl) rfl (fun C hg hl hnm X => ?_)
  subst hg hl
  refine z_iload_n (pc' := 1) X dJ17_checkIndex_0 rfl rfl ?_
  refine z_iload_n (pc' := 2) X dJ17_checkIndex_1 rfl rfl ?_
  refine z_null (pc' := 3) X dJ17_checkIndex_2 rfl ?_
  refine z_callS0 (pc' := 6) X Y_J18_checkIndex q560 dJ17_checkIndex_3 rfl (Nat.le_of_ble_eq_true rfl) (Nat.le_of_ble_eq_true rfl) (Nat.le_of_ble_eq_true rfl) rfl rfl (Nat.le_of_ble_eq_true rfl) (c_J18_checkIndex _ _ _ (i) (n) (by first | assumption | omega) (by first | assumption | omega)) ?_
  dsimp only [zst]
  refine z_iret1 X dJ17_checkIndex_6 (Nat.le_of_ble_eq_true rfl) (Nat.le_of_ble_eq_true rfl) ?_
  exact ⟨rfl, rfl⟩
theorem Y_J3_newLength : zYS yJ3_newLength cJ3_newLength 4 (some .int) 3 := ⟨⟨q321, q119, q322⟩, by decide +kernel, by decide⟩
set_option maxRecDepth 100000 in
theorem c_J3_newLength (l : Launch) (g : zG) (h : GH) (a b c : Int) (ha : 0 ≤ a ∧ a ≤ 100000) (hb : 1 ≤ b ∧ b ≤ 100000) (hc : 0 ≤ c ∧ c ≤ 100000) : zPur l yJ3_newLength cJ3_newLength 4 (some .int) 2 [vI a, vI b, vI c] g h (some (vI (a + if b < c then c else b))) := by
  refine zMet.mkF (L0 := [some (vI a), some (vI b), some (vI c), none]) (by decide +kernel) rfl (Nat.le_of_ble_eq_true rfl) rfl (fun C hg hl hnm X => ?_)
  subst hg hl
  refine z_iload_n (pc' := 1) X dJ3_newLength_0 rfl rfl ?_
  refine z_iload_n (pc' := 2) X dJ3_newLength_1 rfl rfl ?_
  refine z_iload_n (pc' := 3) X dJ3_newLength_2 rfl rfl ?_
  refine z_callS0 (pc' := 6) X Y_J4_max q323 dJ3_newLength_3 rfl (Nat.le_of_ble_eq_true rfl) (Nat.le_of_ble_eq_true rfl) (Nat.le_of_ble_eq_true rfl) rfl rfl (Nat.le_of_ble_eq_true rfl) (c_J4_max _ _ _ (b) (c) (by first | assumption | omega | (split <;> omega)) (by first | assumption | omega | (split <;> omega))) ?_
  dsimp only [zst]
  refine z_iadd (pc' := 7) X dJ3_newLength_6 rfl ?_
  refine z_istore_n (pc' := 8) X dJ3_newLength_7 rfl (by decide) rfl ?_
  dsimp only [List.set]
  refine z_iconst (pc' := 9) X dJ3_newLength_8 rfl ?_
  refine z_iload_n (pc' := 10) X dJ3_newLength_9 rfl rfl ?_
  refine z_icmp_ge (tgt := 21) (pc' := 13) X (by first | assumption | omega | (split <;> omega)) (by first | assumption | omega | (split <;> omega)) dJ3_newLength_10 rfl (by decide) (fun c10 => ?_) (fun c10 => ?_)
  · exact absurd c10 (by split <;> omega)
  · refine z_iload_n (pc' := 14) X dJ3_newLength_13 rfl rfl ?_
    refine z_ldc (pc' := 16) X q326 (z := 2147483639) (by decide) dJ3_newLength_14 rfl ?_
    refine z_icmp_gt (tgt := 21) (pc' := 19) X (by first | assumption | omega | (split <;> omega)) (by first | assumption | omega | (split <;> omega)) dJ3_newLength_16 rfl (by decide) (fun c16 => ?_) (fun c16 => ?_)
    · exact absurd c16 (by split <;> omega)
    · refine z_iload_n (pc' := 20) X dJ3_newLength_19 rfl rfl ?_
      refine z_iret1 X dJ3_newLength_20 (Nat.le_of_ble_eq_true rfl) (Nat.le_of_ble_eq_true rfl) ?_
      exact ⟨rfl, rfl⟩
/-- a longer array's content -/
def cpL (f : Nat → Option Nat) (n0 : Nat) : Nat → Option Nat := va_cpy f (fun _ => none) 0 0 n0
theorem cpL_at {f : Nat → Option Nat} {n0 k : Nat} : cpL f n0 k = if k < n0 then f k else none := by
  unfold cpL va_cpy
  by_cases h : k < n0
  · rw [if_pos ⟨Nat.zero_le _, by omega⟩, if_pos h, Nat.sub_zero, Nat.zero_add]
  · rw [if_neg (by omega), if_neg h]
theorem Y_J5_copyOf_2 : zYS yJ5_copyOf_2 cJ5_copyOf_2 4 (some (FieldType.array (FieldType.object "java/lang/Object"))) 3 := ⟨⟨q367, q121, q368⟩, by decide +kernel, by decide⟩
set_option maxRecDepth 100000 in
theorem c_J5_copyOf_2 (l : Launch) (g : zG) (h : GH) (a n0 : Nat) (f : Nat → Option Nat) (Ni : Nat) (ci : Nat) (r : vw_C) (hc : zCl[ci]? = some r) (hca : Cond.castable r.1 "java/lang/Object" ∈ lw_tbl) (ha : h a = some (zAq 14 n0 f)) (hN : n0 ≤ Ni ∧ Ni ≤ 1000) (hel : ∀ i, i < n0 → ∀ y, f i = some y → ∃ fs, h y = some (zO ci fs)) : zMet l yJ5_copyOf_2 cJ5_copyOf_2 4 (some (FieldType.array (FieldType.object "java/lang/Object"))) 4 1 Ni [vR a, vI (Ni : Int), vR (g.2.2 7)] g h (fun v h' => ∃ q, v = some (vR q) ∧ h q = none ∧ h' = hset h q (zAq 14 Ni (cpL f n0))) := by
  refine zMet.mkF (L0 := [some (vR a), some (vI (Ni : Int)), some (vR (g.2.2 7)), none]) (by decide) rfl (Nat.le_of_ble_eq_true rfl) rfl (fun C hg hl hnm X => ?_)
  subst hg hl
  refine z_aload_n (pc' := 1) X dJ5_copyOf_2_0 rfl rfl ?_
  refine z_ldcM (pc' := 3) X q369 dJ5_copyOf_2_1 rfl ?_
  refine z_acmp_ne (rx := some ((zg C).2.2 7)) (ry := some ((zg C).2.2 7)) (tgt := 13) (pc' := 6) X dJ5_copyOf_2_3 rfl (by decide) (fun c3 => ?_) (fun c3 => ?_)
  · exact absurd rfl c3
  refine z_iload_n (pc' := 7) X dJ5_copyOf_2_6 rfl rfl ?_
  refine z_newq1 (pc' := 10) X (N := Ni) (t := 14) (t0 := 4) (fun _ => rfl) q370 q371 (by omega) dJ5_copyOf_2_7 rfl (by omega) (by omega) (fun q h1 nq e1 => ?_)
  have g1 := (congrFun e1 q).trans hset_s
  have f1 := (congrFun e1 a).trans (hset_f ha nq)
  refine z_goto (tgt := 24) X dJ5_copyOf_2_10 (by decide) ?_
  refine z_astore_n (pc' := 25) X dJ5_copyOf_2_24 rfl (by decide) rfl ?_
  dsimp only [List.set]
  refine z_aload_n (pc' := 26) X dJ5_copyOf_2_25 rfl rfl ?_
  refine z_iconst (pc' := 27) X dJ5_copyOf_2_26 rfl ?_
  refine z_aload_n (pc' := 28) X dJ5_copyOf_2_27 rfl rfl ?_
  refine z_iconst (pc' := 29) X dJ5_copyOf_2_28 rfl ?_
  refine z_aload_n (pc' := 30) X dJ5_copyOf_2_29 rfl rfl ?_
  refine z_alen1 (pc' := 31) X (t0 := 4) (fun _ => rfl) f1 dJ5_copyOf_2_30 rfl ?_
  refine z_iload_n (pc' := 32) X dJ5_copyOf_2_31 rfl rfl ?_
  refine z_callS0 (pc' := 35) X Y_J4_min q372 dJ5_copyOf_2_32 rfl (by decide) (by omega) (by omega) rfl rfl (Nat.le_of_ble_eq_true rfl) (c_J4_min _ _ _ (n0 : Int) (Ni : Int) (by unfold rng; omega) (by unfold rng; omega)) ?_
  dsimp only [zst]
  rw [show (if (Ni : Int) < (n0 : Int) then (Ni : Int) else (n0 : Int)) = (n0 : Int) from if_neg_or_eq (by omega)]
  refine z_copyq (pc' := 38) X q375 dJ5_copyOf_2_35 rfl (by decide) (Nat.le_of_ble_eq_true rfl) hc hca f1 g1 (by decide) (by decide) (by omega) (by omega) (by omega) (by omega) (fun i hi y hy => ?_) (fun h2 e2 => ?_)
  · obtain ⟨fs, hfs⟩ := hel i (by omega) y (by rw [← hy]; congr 1; show i = 0 + i; omega)
    exact ⟨fs, (congrFun e1 y).trans (hset_f hfs nq)⟩
  refine z_aload_n (pc' := 39) X dJ5_copyOf_2_38 rfl rfl ?_
  refine z_aret1 X (Or.inr ⟨_, rfl⟩) dJ5_copyOf_2_39 (by omega) (by omega) ⟨q, rfl, nq, ?_⟩
  rw [e2, e1]
  funext x
  by_cases hx : x = q
  · subst hx
    rw [hset_s, hset_s]
    rfl
  · rw [hset_n hx, hset_n hx, hset_n hx]
theorem Y_J5_copyOf : zYS yJ5_copyOf cJ5_copyOf 2 (some (FieldType.array (FieldType.object "java/lang/Object"))) 2 := ⟨⟨q331, q121, q332⟩, by decide +kernel, by decide⟩
set_option maxRecDepth 100000 in
theorem c_J5_copyOf (l : Launch) (g : zG) (h : GH) (a n0 : Nat) (f : Nat → Option Nat) (Ni : Nat) (ci : Nat) (r : vw_C) (hc : zCl[ci]? = some r) (hca : Cond.castable r.1 "java/lang/Object" ∈ lw_tbl) (ha : h a = some (zAq 14 n0 f)) (hN : n0 ≤ Ni ∧ Ni ≤ 1000) (hel : ∀ i, i < n0 → ∀ y, f i = some y → ∃ fs, h y = some (zO ci fs)) : zMet l yJ5_copyOf cJ5_copyOf 2 (some (FieldType.array (FieldType.object "java/lang/Object"))) 5 1 Ni [vR a, vI (Ni : Int)] g h (fun v h' => ∃ q, v = some (vR q) ∧ h q = none ∧ h' = hset h q (zAq 14 Ni (cpL f n0))) := by
  refine zMet.mkF (L0 := [some (vR a), some (vI (Ni : Int))]) (by decide) rfl (Nat.le_of_ble_eq_true rfl) rfl (fun C hg hl hnm X => ?_)
  subst hg hl
  refine z_aload_n (pc' := 1) X dJ5_copyOf_0 rfl rfl ?_
  refine z_iload_n (pc' := 2) X dJ5_copyOf_1 rfl rfl ?_
  refine z_aload_n (pc' := 3) X dJ5_copyOf_2 rfl rfl ?_
  refine z_getC (pc' := 6) X q333 ha (by decide) (Nat.le_of_ble_eq_true rfl) dJ5_copyOf_3 rfl ?_
  refine z_callS1 (pc' := 9) X Y_J5_copyOf_2 q366 dJ5_copyOf_6 rfl (by decide) (by omega) (by omega) rfl rfl (Nat.le_of_ble_eq_true rfl) (c_J5_copyOf_2 _ _ _ a n0 f Ni ci r hc hca ha hN hel) (fun v h1 p1 => ?_)
  obtain ⟨q, ev, nq, e1⟩ := p1
  subst ev
  dsimp only [zst]
  exact z_aret1 X (Or.inr ⟨_, rfl⟩) dJ5_copyOf_9 (by omega) (by omega) ⟨q, rfl, nq, e1⟩
end ZAL

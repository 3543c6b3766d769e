/-! ArrayList's members, over ghost heaps -/
section ZAL2
theorem alA.mod {b : Nat → Nat} {h : GH} {a : Nat} {ar : Option Nat} {xs : List Nat} {m m' : Int} (hal : alA b h a ar xs) (h1 : h a = some (zO 13 [vI m, vR (ar.getD (b 6)), vI (xs.length : Int)])) : alA b (hset h a (zO 13 [vI m', vR (ar.getD (b 6)), vI (xs.length : Int)])) a ar xs := by
  refine ⟨⟨m', hset_s⟩, hal.2.1, fun x hx => ?_⟩
  obtain ⟨cap, f, e1, e2⟩ := hal.2.2 x hx
  exact ⟨cap, f, hset_ao e1 h1, e2⟩
theorem fup_app {f : Nat → Option Nat} {xs : List Nat} {q cap : Nat} (hf : ∀ k, k < cap → f k = xs[k]?) {k : Nat} (hk : k < cap) : fup f ((xs.length : Nat) : Int).toNat (some q) k = (xs ++ [q])[k]? := by
  unfold fup
  rw [Int.toNat_natCast]
  by_cases h : k = xs.length
  · subst h
    rw [if_pos rfl, List.getElem?_append_right (Nat.le_refl _), Nat.sub_self]
    rfl
  · rw [if_neg h, hf k hk]
    by_cases h2 : k < xs.length
    · rw [List.getElem?_append_left h2]
    · rw [List.getElem?_append_right (by omega), List.getElem?_eq_none (by omega), List.getElem?_eq_none (by simp; omega)]
theorem er_at {xs : List Nat} {i k : Nat} : (xs.eraseIdx i)[k]? = if k < i then xs[k]? else xs[k + 1]? := List.getElem?_eraseIdx
theorem er_none {xs : List Nat} (h : xs ≠ []) {f : Nat → Option Nat} {cap : Nat} (hf : ∀ k, k < cap → f k = xs[k]?) {i k : Nat} (hi : i + 1 = xs.length) (hk : k < cap) : fup f ((xs.length : Int) - 1).toNat none k = (xs.eraseIdx i)[k]? := by
  unfold fup
  rw [show ((xs.length : Int) - 1).toNat = i by omega, er_at]
  by_cases h1 : k = i
  · rw [if_pos h1, if_neg (by omega), List.getElem?_eq_none (by omega)]
  · rw [if_neg h1, hf k hk]
    split
    · rfl
    · rw [List.getElem?_eq_none (by omega), List.getElem?_eq_none (by omega)]
theorem er_cpy {xs : List Nat} {f : Nat → Option Nat} {cap : Nat} (hf : ∀ k, k < cap → f k = xs[k]?) (hc : xs.length ≤ cap) {i : Int} {k : Nat} (h0 : 0 ≤ i) (hi : i < (xs.length : Int) - 1) (hk : k < cap) :
    fup (va_cpy f f (i + 1).toNat i.toNat (((xs.length : Int) - 1) - i).toNat) ((xs.length : Int) - 1).toNat none k = (xs.eraseIdx i.toNat)[k]? := by
  unfold fup va_cpy
  rw [er_at]
  by_cases h1 : k = ((xs.length : Int) - 1).toNat
  · rw [if_pos h1, if_neg (by omega), List.getElem?_eq_none (by omega)]
  · rw [if_neg h1]
    by_cases h2 : k < i.toNat
    · rw [if_neg (by omega), if_pos h2, hf k hk]
    · rw [if_neg h2]
      by_cases h3 : k + 1 < xs.length
      · rw [if_pos (by omega), hf _ (by omega)]
        congr 1
        omega
      · rw [if_neg (by omega), hf k hk, List.getElem?_eq_none (by omega), List.getElem?_eq_none (by omega)]
theorem ins_cpy {xs : List Nat} {f : Nat → Option Nat} {cap q : Nat} (hf : ∀ k, k < cap → f k = xs[k]?) (hc : xs.length < cap) {i : Int} {k : Nat} (h0 : 0 ≤ i) (hi : i ≤ (xs.length : Int)) (hk : k < cap) :
    fup (va_cpy f f i.toNat (i + 1).toNat ((xs.length : Int) - i).toNat) i.toNat (some q) k = (xs.insertIdx i.toNat q)[k]? := by
  unfold fup va_cpy
  rw [List.getElem?_insertIdx]
  by_cases h1 : k = i.toNat
  · rw [if_pos h1, if_neg (by omega), if_pos h1, if_pos (by omega)]
  · rw [if_neg h1]
    by_cases h2 : k < i.toNat
    · rw [if_neg (by omega), if_pos h2, hf k hk]
    · rw [if_neg h2, if_neg h1]
      by_cases h3 : k ≤ xs.length
      · rw [if_pos (by omega), hf _ (by omega)]
        congr 1
        omega
      · rw [if_neg (by omega), hf k hk, List.getElem?_eq_none (by omega), List.getElem?_eq_none (by omega)]
set_option maxRecDepth 100000 in
theorem c_J2_size (l : Launch) (g : zG) (h : GH) (a : Nat) (ar : Option Nat) (xs : List Nat) (hal : alA g.2.2 h a ar xs) : zPur l yJ2_size cJ2_size 1 (some .int) 1 [vR a] g h (some (vI (xs.length : Int))) := by
  refine zMet.mkF (L0 := [some (vR a)]) (by decide +kernel) rfl (Nat.le_of_ble_eq_true rfl) rfl (fun C hg hl hnm X => ?_)
  subst hg hl
  obtain ⟨⟨m, f1⟩, f2, f3⟩ := id hal
  refine z_aload_n (pc' := 1) X dJ2_size_0 rfl rfl ?_
  refine z_get1 (pc' := 4) (kf := 2) X in_J2 rfl (by decide) q201 (Or.inl rfl) f1 rfl dJ2_size_1 rfl ?_
  refine z_iret1 X dJ2_size_4 (Nat.le_of_ble_eq_true rfl) (Nat.le_of_ble_eq_true rfl) ?_
  exact ⟨rfl, rfl⟩
set_option maxRecDepth 100000 in
theorem c_J2_isEmpty (l : Launch) (g : zG) (h : GH) (a : Nat) (ar : Option Nat) (xs : List Nat) (hl : xs.length ≤ 1000) (hal : alA g.2.2 h a ar xs) : zPur l yJ2_isEmpty cJ2_isEmpty 1 (some .boolean) 1 [vR a] g h (some (vI (bI (xs.length = 0)))) := by
  refine zMet.mkF (L0 := [some (vR a)]) (by decide +kernel) rfl (Nat.le_of_ble_eq_true rfl) rfl (fun C hg hl hnm X => ?_)
  subst hg hl
  obtain ⟨⟨m, f1⟩, f2, f3⟩ := id hal
  refine z_aload_n (pc' := 1) X dJ2_isEmpty_0 rfl rfl ?_
  refine z_get1 (pc' := 4) (kf := 2) X in_J2 rfl (by decide) q201 (Or.inl rfl) f1 rfl dJ2_isEmpty_1 rfl ?_
  refine z_if_ne (tgt := 11) (pc' := 7) X (by first | assumption | omega) dJ2_isEmpty_4 rfl (by decide) (fun c4 => ?_) (fun c4 => ?_)
  · refine z_iconst (pc' := 12) X dJ2_isEmpty_11 rfl ?_
    refine z_zret1 X dJ2_isEmpty_12 (by first | exact nar_0 | exact nar_1 | exact nar_bI _ | exact nar_b (by omega)) (Nat.le_of_ble_eq_true rfl) (Nat.le_of_ble_eq_true rfl) ?_
    exact ⟨by rw [bI_f (by omega)], rfl⟩
  · refine z_iconst (pc' := 8) X dJ2_isEmpty_7 rfl ?_
    refine z_goto (tgt := 12) X dJ2_isEmpty_8 (by decide) ?_
    refine z_zret1 X dJ2_isEmpty_12 (by first | exact nar_0 | exact nar_1 | exact nar_bI _ | exact nar_b (by omega)) (Nat.le_of_ble_eq_true rfl) (Nat.le_of_ble_eq_true rfl) ?_
    exact ⟨by rw [bI_t (by omega)], rfl⟩
theorem Y_J2_elementData : zYV yJ2_elementData cJ2_elementData 2 (some (.object "java/lang/Object")) 1 := ⟨⟨q564, q565, q117, q566⟩, by decide +kernel, by decide⟩
set_option maxRecDepth 100000 in
theorem c_J2_elementData (l : Launch) (g : zG) (h : GH) (a : Nat) (ar : Option Nat) (xs : List Nat) (i : Int) (q : Nat) (hal : alA g.2.2 h a ar xs) (hi : 0 ≤ i) (hq : xs[i.toNat]? = some q) : zPur l yJ2_elementData cJ2_elementData 2 (some (.object "java/lang/Object")) 1 [vR a, vI i] g h (some (vR q)) := by
  refine zMet.mkF (L0 := [some (vR a), some (vI i)]) (by decide +kernel) rfl (Nat.le_of_ble_eq_true rfl) rfl (fun C hg hl hnm X => ?_)
  subst hg hl
  obtain ⟨⟨m, f1⟩, f2, f3⟩ := id hal
  obtain ⟨a1, har⟩ : ∃ a1, ar = some a1 := by
    cases ar with
    | none => rw [f2 rfl] at hq; simp at hq
    | some x => exact ⟨x, rfl⟩
  subst har
  obtain ⟨cap, f, f4, f5, f6⟩ := f3 a1 rfl
  dsimp only [Option.getD_some] at f1
  have hl := (List.getElem?_eq_some_iff.mp hq).1
  refine z_aload_n (pc' := 1) X dJ2_elementData_0 rfl rfl ?_
  refine z_get1 (pc' := 4) (kf := 1) X in_J2 rfl (by decide) q200 (Or.inl rfl) f1 rfl dJ2_elementData_1 rfl ?_
  refine z_iload_n (pc' := 5) X dJ2_elementData_4 rfl rfl ?_
  refine z_aald1 (pc' := 6) X (t0 := 4) (fun _ => rfl) f4 (by first | assumption | omega) (by omega) dJ2_elementData_5 rfl ?_
  rw [show f i.toNat = some q by rw [f6 _ (by omega)]; exact hq]
  refine z_aret1 X (Or.inl ⟨_, rfl⟩) dJ2_elementData_6 (Nat.le_of_ble_eq_true rfl) (Nat.le_of_ble_eq_true rfl) ?_
  exact ⟨rfl, rfl⟩
set_option maxRecDepth 100000 in
theorem c_J2_get (l : Launch) (g : zG) (h : GH) (a : Nat) (ar : Option Nat) (xs : List Nat) (i : Int) (q : Nat) (hal : alA g.2.2 h a ar xs) (hi : 0 ≤ i) (hq : xs[i.toNat]? = some q) (hn : xs.length ≤ 1000) : zPur l yJ2_get cJ2_get 2 (some (.object "java/lang/Object")) 4 [vR a, vI i] g h (some (vR q)) := by
  refine zMet.mkF (L0 := [some (vR a), some (vI i)]) (by decide +kernel) rfl (Nat.le_of_ble_eq_true rfl) rfl (fun C hg hl hnm X => ?_)
  subst hg hl
  obtain ⟨⟨m, f1⟩, f2, f3⟩ := id hal
  obtain ⟨a1, har⟩ : ∃ a1, ar = some a1 := by
    cases ar with
    | none => rw [f2 rfl] at hq; simp at hq
    | some x => exact ⟨x, rfl⟩
  subst har
  obtain ⟨cap, f, f4, f5, f6⟩ := f3 a1 rfl
  dsimp only [Option.getD_some] at f1
  have hl := (List.getElem?_eq_some_iff.mp hq).1
  refine z_iload_n (pc' := 1) X dJ2_get_0 rfl rfl ?_
  refine z_aload_n (pc' := 2) X dJ2_get_1 rfl rfl ?_
  refine z_get1 (pc' := 5) (kf := 2) X in_J2 rfl (by decide) q201 (Or.inl rfl) f1 rfl dJ2_get_2 rfl ?_
  refine z_callS0 (pc' := 8) X Y_J17_checkIndex q557 dJ2_get_5 rfl (Nat.le_of_ble_eq_true rfl) (Nat.le_of_ble_eq_true rfl) (Nat.le_of_ble_eq_true rfl) rfl rfl (Nat.le_of_ble_eq_true rfl) (c_J17_checkIndex _ _ _ (i) ((xs.length : Int)) (by first | assumption | omega) (by first | assumption | omega)) ?_
  dsimp only [zst]
  refine z_pop (pc' := 9) X rfl dJ2_get_8 rfl ?_
  refine z_aload_n (pc' := 10) X dJ2_get_9 rfl rfl ?_
  refine z_iload_n (pc' := 11) X dJ2_get_10 rfl rfl ?_
  refine z_callV0 (pc' := 14) X Y_J2_elementData q563 dJ2_get_11 rfl (Nat.le_of_ble_eq_true rfl) (Nat.le_of_ble_eq_true rfl) (Nat.le_of_ble_eq_true rfl) rfl rfl (Nat.le_of_ble_eq_true rfl) rfl ⟨_, f1⟩ (c_J2_elementData _ _ _ a _ xs i q hal hi hq) ?_
  dsimp only [zst]
  refine z_aret1 X (Or.inl ⟨_, rfl⟩) dJ2_get_14 (Nat.le_of_ble_eq_true rfl) (Nat.le_of_ble_eq_true rfl) ?_
  exact ⟨rfl, rfl⟩
theorem Y_J2_grow_2 : zYV yJ2_grow_2 cJ2_grow_2 4 (some (FieldType.array (FieldType.object "java/lang/Object"))) 1 := ⟨⟨q318, qs2, q117, q319⟩, by decide +kernel, by decide⟩
set_option maxRecDepth 100000 in
theorem c_J2_grow_2_v (l : Launch) (g : zG) (h : GH) (a : Nat) (m : Int) (xs : List Nat) (h0 : xs = []) (f1 : h a = some (zO 13 [vI m, vR (g.2.2 6), vI (xs.length : Int)])) : zMet l yJ2_grow_2 cJ2_grow_2 4 (some (FieldType.array (FieldType.object "java/lang/Object"))) 6 1 60 [vR a, vI ((xs.length : Int) + 1)] g h (fun v h' => ∃ a2 cap2 f2, v = some (vR a2) ∧ h a2 = none ∧ h' a = some (zO 13 [vI m, vR a2, vI (xs.length : Int)]) ∧ h' a2 = some (zAq 14 cap2 f2) ∧ xs.length < cap2 ∧ cap2 ≤ 60 ∧ (∀ k, k < cap2 → f2 k = xs[k]?) ∧ hF h (fun x => x = a) h') := by
  refine zMet.mkF (L0 := [some (vR a), some (vI ((xs.length : Int) + 1)), none, none]) (by decide +kernel) rfl (Nat.le_of_ble_eq_true rfl) rfl (fun C hg hl hnm X => ?_)
  subst hg hl
  have w0 : hF h (fun x => x = a) h := hF.rf
  have hl0 : xs.length = 0 := by rw [h0]; rfl
  refine z_aload_n (pc' := 1) X dJ2_grow_2_0 rfl rfl ?_
  refine z_get1 (pc' := 4) (kf := 1) X in_J2 rfl (by decide) q200 (Or.inl rfl) f1 rfl dJ2_grow_2_1 rfl ?_
  refine z_alen6 (pc' := 5) X dJ2_grow_2_4 rfl ?_
  refine z_istore_n (pc' := 6) X dJ2_grow_2_5 rfl (by decide) rfl ?_
  dsimp only [List.set]
  refine z_iload_n (pc' := 7) X dJ2_grow_2_6 rfl rfl ?_
  refine z_if_gt (tgt := 20) (pc' := 10) X (by decide) dJ2_grow_2_7 rfl (by decide) (fun c7 => ?_) (fun c7 => ?_)
  · exact absurd c7 (by decide)
  · refine z_aload_n (pc' := 11) X dJ2_grow_2_10 rfl rfl ?_
    refine z_get1 (pc' := 14) (kf := 1) X in_J2 rfl (by decide) q200 (Or.inl rfl) f1 rfl dJ2_grow_2_11 rfl ?_
    refine z_gets (pc' := 17) X (fun U hU => hU.2.2.1.1) q198 rfl dJ2_grow_2_14 rfl ?_
    refine z_acmp_eq (rx := (some ((zg C).2.2 6))) (ry := (some ((zg C).2.2 6))) (tgt := 45) (pc' := 20) X dJ2_grow_2_17 rfl (by decide) (fun c17 => ?_) (fun c17 => ?_)
    · refine z_aload_n (pc' := 46) X dJ2_grow_2_45 rfl rfl ?_
      refine z_bipush (pc' := 48) X dJ2_grow_2_46 rfl (by decide) ?_
      refine z_iload_n (pc' := 49) X dJ2_grow_2_48 rfl rfl ?_
      refine z_callS0 (pc' := 52) X Y_J4_max q378 dJ2_grow_2_49 rfl (Nat.le_of_ble_eq_true rfl) (Nat.le_of_ble_eq_true rfl) (Nat.le_of_ble_eq_true rfl) rfl rfl (Nat.le_of_ble_eq_true rfl) (c_J4_max _ _ _ (10) (((xs.length : Int) + 1)) (by first | assumption | omega) (by first | assumption | omega)) ?_
      dsimp only [zst]
      rw [show (if (10 : Int) < ((xs.length : Int) + 1) then ((xs.length : Int) + 1) else 10) = ((10 : Nat) : Int) from if_neg (by omega)]
      refine z_newq1 (pc' := 55) X (N := 10) (t := 14) (t0 := 4) (fun _ => rfl) q370 q379 (by first | decide | omega) dJ2_grow_2_52 rfl (Nat.le_of_ble_eq_true rfl) (Nat.le_of_ble_eq_true rfl) (fun q2 h2 n2 e2 => ?_)
      have g2 := (congrFun e2 q2).trans hset_s
      have fa3 := (congrFun e2 _).trans (hset_f f1 n2)
      have w2 : hF h (fun x => x = a) h2 := by rw [e2]; exact w0.new n2
      refine z_dup_x1 (pc' := 56) X rfl rfl dJ2_grow_2_55 rfl ?_
      refine z_put1 (pc' := 59) (kf := 1) X in_J2 tyJ2 tyJ2_ok nmJ2 rfl (by decide) q200 (Or.inl rfl) rfl rfl rfl (Nat.le_of_ble_eq_true rfl) fa3 dJ2_grow_2_56 rfl (fun h4 e4 => ?_)
      have g4 := (congrFun e4 a).trans hset_s
      try dsimp only [List.set] at g4
      have fa5 := (congrFun e4 _).trans (hset_ao g2 fa3)
      have w4 : hF h (fun x => x = a) h4 := by rw [e4]; exact w2.set (Or.inl rfl)
      refine z_aret1 X (Or.inr ⟨_, rfl⟩) dJ2_grow_2_59 (Nat.le_of_ble_eq_true rfl) (Nat.le_of_ble_eq_true rfl) ?_
      exact ⟨q2, 10, _, rfl, n2, g4, fa5, by omega, by decide, fun k _ => by rw [h0]; rfl, w4⟩
    · exact absurd rfl c17
set_option maxRecDepth 100000 in
theorem c_J2_grow_2_f (l : Launch) (g : zG) (h : GH) (a a1 : Nat) (m : Int) (xs : List Nat) (f : Nat → Option Nat) (ci : Nat) (r : vw_C) (hc : zCl[ci]? = some r) (hca : Cond.castable r.1 "java/lang/Object" ∈ lw_tbl) (f1 : h a = some (zO 13 [vI m, vR a1, vI (xs.length : Int)])) (f4 : h a1 = some (zAq 14 xs.length f)) (f5 : 1 ≤ xs.length ∧ xs.length ≤ 40) (f6 : ∀ k, k < xs.length → f k = xs[k]?) (hxs : ∀ x ∈ xs, ∃ fs, h x = some (zO ci fs)) (hci : ci ≠ 13) : zMet l yJ2_grow_2 cJ2_grow_2 4 (some (FieldType.array (FieldType.object "java/lang/Object"))) 6 1 60 [vR a, vI ((xs.length : Int) + 1)] g h (fun v h' => ∃ a2 cap2 f2, v = some (vR a2) ∧ h a2 = none ∧ h' a = some (zO 13 [vI m, vR a2, vI (xs.length : Int)]) ∧ h' a2 = some (zAq 14 cap2 f2) ∧ xs.length < cap2 ∧ cap2 ≤ 60 ∧ (∀ k, k < cap2 → f2 k = xs[k]?) ∧ hF h (fun x => x = a) h') := by
  refine zMet.mkF (L0 := [some (vR a), some (vI ((xs.length : Int) + 1)), none, none]) (by decide +kernel) rfl (Nat.le_of_ble_eq_true rfl) rfl (fun C hg hl hnm X => ?_)
  subst hg hl
  have w0 : hF h (fun x => x = a) h := hF.rf
  refine z_aload_n (pc' := 1) X dJ2_grow_2_0 rfl rfl ?_
  refine z_get1 (pc' := 4) (kf := 1) X in_J2 rfl (by decide) q200 (Or.inl rfl) f1 rfl dJ2_grow_2_1 rfl ?_
  refine z_alen1 (pc' := 5) X (t0 := 4) (fun _ => rfl) f4 dJ2_grow_2_4 rfl ?_
  refine z_istore_n (pc' := 6) X dJ2_grow_2_5 rfl (by decide) rfl ?_
  dsimp only [List.set]
  refine z_iload_n (pc' := 7) X dJ2_grow_2_6 rfl rfl ?_
  refine z_if_gt (tgt := 20) (pc' := 10) X (by first | assumption | omega) dJ2_grow_2_7 rfl (by decide) (fun c7 => ?_) (fun c7 => ?_)
  · refine z_iload_n (pc' := 21) X dJ2_grow_2_20 rfl rfl ?_
    refine z_iload_n (pc' := 22) X dJ2_grow_2_21 rfl rfl ?_
    refine z_iload_n (pc' := 23) X dJ2_grow_2_22 rfl rfl ?_
    refine z_isub (pc' := 24) X dJ2_grow_2_23 rfl ?_
    refine z_iload_n (pc' := 25) X dJ2_grow_2_24 rfl rfl ?_
    refine z_iconst (pc' := 26) X dJ2_grow_2_25 rfl ?_
    refine z_ishr (pc' := 27) X (r := ((xs.length : Int) / 2)) (by exact jI_shr1 (by omega)) dJ2_grow_2_26 rfl ?_
    refine z_callS0 (pc' := 30) X Y_J3_newLength q320 dJ2_grow_2_27 rfl (Nat.le_of_ble_eq_true rfl) (Nat.le_of_ble_eq_true rfl) (Nat.le_of_ble_eq_true rfl) rfl rfl (Nat.le_of_ble_eq_true rfl) (c_J3_newLength _ _ _ ((xs.length : Int)) ((((xs.length : Int) + 1) - (xs.length : Int))) (((xs.length : Int) / 2)) (by first | assumption | omega) (by first | assumption | omega) (by first | assumption | omega)) ?_
    dsimp only [zst]
    obtain ⟨Ni, hNi⟩ : ∃ Ni : Nat, ((xs.length : Int) + if (((xs.length : Int) + 1) - (xs.length : Int)) < ((xs.length : Int) / 2) then ((xs.length : Int) / 2) else (((xs.length : Int) + 1) - (xs.length : Int))) = (Ni : Int) := ⟨_, (Int.toNat_of_nonneg (by split <;> omega)).symm⟩
    have hNb : xs.length < Ni ∧ Ni ≤ 60 := by split at hNi <;> omega
    rw [hNi]
    refine z_istore_n (pc' := 31) X dJ2_grow_2_30 rfl (by decide) rfl ?_
    dsimp only [List.set]
    refine z_aload_n (pc' := 32) X dJ2_grow_2_31 rfl rfl ?_
    refine z_aload_n (pc' := 33) X dJ2_grow_2_32 rfl rfl ?_
    refine z_get1 (pc' := 36) (kf := 1) X in_J2 rfl (by decide) q200 (Or.inl rfl) f1 rfl dJ2_grow_2_33 rfl ?_
    refine z_iload_n (pc' := 37) X dJ2_grow_2_36 rfl rfl ?_
    refine z_callS1 (pc' := 40) X Y_J5_copyOf q330 dJ2_grow_2_37 rfl (Nat.le_of_ble_eq_true rfl) (by omega) (by omega) rfl rfl (Nat.le_of_ble_eq_true rfl) (c_J5_copyOf _ _ _ a1 xs.length f Ni ci r hc hca f4 (by omega) (fun i hi y hy => hxs y (List.mem_of_getElem? ((f6 i hi).symm.trans hy)))) (fun v2 h2 p2 => ?_)
    obtain ⟨q2, ev2, n2, e2⟩ := p2
    subst ev2
    dsimp only [zst]
    have g2 := (congrFun e2 q2).trans hset_s
    have fa3 := (congrFun e2 _).trans (hset_f f1 n2)
    have fa4 := (congrFun e2 _).trans (hset_f f4 n2)
    have w2 : hF h (fun x => x = a) h2 := by rw [e2]; exact w0.new n2
    refine z_dup_x1 (pc' := 41) X rfl rfl dJ2_grow_2_40 rfl ?_
    refine z_put1 (pc' := 44) (kf := 1) X in_J2 tyJ2 tyJ2_ok nmJ2 rfl (by decide) q200 (Or.inl rfl) rfl rfl rfl (Nat.le_of_ble_eq_true rfl) fa3 dJ2_grow_2_41 rfl (fun h5 e5 => ?_)
    have g5 := (congrFun e5 a).trans hset_s
    try dsimp only [List.set] at g5
    have fa6 := (congrFun e5 _).trans (hset_ao fa4 fa3)
    have fa7 := (congrFun e5 _).trans (hset_ao g2 fa3)
    have w5 : hF h (fun x => x = a) h5 := by rw [e5]; exact w2.set (Or.inl rfl)
    refine z_aret1 X (Or.inr ⟨_, rfl⟩) dJ2_grow_2_44 (by omega) (by omega) ?_
    refine ⟨q2, Ni, cpL f xs.length, rfl, n2, g5, fa7, hNb.1, hNb.2, fun k hk => ?_, w5⟩
    rw [cpL_at]
    split
    · exact f6 k (by assumption)
    · rw [List.getElem?_eq_none (by omega)]
  · exact absurd c7 (by omega)
/-- what grow asks: the list is full, or its array is the shared empty one -/
def grA (b : Nat → Nat) (h : GH) (a : Nat) (ar : Option Nat) (m : Int) (xs : List Nat) : Prop :=
  h a = some (zO 13 [vI m, vR (ar.getD (b 6)), vI (xs.length : Int)]) ∧ (ar = none → xs = []) ∧ ∀ a1, ar = some a1 → ∃ f, h a1 = some (zAq 14 xs.length f) ∧ (1 ≤ xs.length ∧ xs.length ≤ 40) ∧ ∀ k, k < xs.length → f k = xs[k]?
theorem c_J2_grow_2 (l : Launch) (g : zG) (h : GH) (a : Nat) (ar : Option Nat) (m : Int) (xs : List Nat) (ci : Nat) (r : vw_C) (hc : zCl[ci]? = some r) (hca : Cond.castable r.1 "java/lang/Object" ∈ lw_tbl) (hg : grA g.2.2 h a ar m xs) (hxs : ∀ x ∈ xs, ∃ fs, h x = some (zO ci fs)) (hci : ci ≠ 13) : zMet l yJ2_grow_2 cJ2_grow_2 4 (some (FieldType.array (FieldType.object "java/lang/Object"))) 6 1 60 [vR a, vI ((xs.length : Int) + 1)] g h (fun v h' => ∃ a2 cap2 f2, v = some (vR a2) ∧ h a2 = none ∧ h' a = some (zO 13 [vI m, vR a2, vI (xs.length : Int)]) ∧ h' a2 = some (zAq 14 cap2 f2) ∧ xs.length < cap2 ∧ cap2 ≤ 60 ∧ (∀ k, k < cap2 → f2 k = xs[k]?) ∧ hF h (fun x => x = a) h') := by
  obtain ⟨h1, h2, h3⟩ := hg
  cases ar with
  | none =>
    exact c_J2_grow_2_v l g h a m xs (h2 rfl) h1
  | some a1 =>
    obtain ⟨f, e1, e2, e3⟩ := h3 a1 rfl
    exact c_J2_grow_2_f l g h a a1 m xs f ci r hc hca h1 e1 e2 e3 hxs hci
theorem Y_J2_grow : zYV yJ2_grow cJ2_grow 1 (some (FieldType.array (FieldType.object "java/lang/Object"))) 0 := ⟨⟨q314, qs1, q117, q315⟩, by decide +kernel, by decide⟩
set_option maxRecDepth 100000 in
theorem c_J2_grow (l : Launch) (g : zG) (h : GH) (a : Nat) (ar : Option Nat) (m : Int) (xs : List Nat) (ci : Nat) (r : vw_C) (hc : zCl[ci]? = some r) (hca : Cond.castable r.1 "java/lang/Object" ∈ lw_tbl) (hg0 : grA g.2.2 h a ar m xs) (hxs : ∀ x ∈ xs, ∃ fs, h x = some (zO ci fs)) (hci : ci ≠ 13) : zMet l yJ2_grow cJ2_grow 1 (some (FieldType.array (FieldType.object "java/lang/Object"))) 7 1 60 [vR a] g h (fun v h' => ∃ a2 cap2 f2, v = some (vR a2) ∧ h a2 = none ∧ h' a = some (zO 13 [vI m, vR a2, vI (xs.length : Int)]) ∧ h' a2 = some (zAq 14 cap2 f2) ∧ xs.length < cap2 ∧ cap2 ≤ 60 ∧ (∀ k, k < cap2 → f2 k = xs[k]?) ∧ hF h (fun x => x = a) h') := by
  refine zMet.mkF (L0 := [some (vR a)]) (by decide +kernel) rfl (Nat.le_of_ble_eq_true rfl) rfl (fun C hg hl hnm X => ?_)
  subst hg hl
  obtain ⟨f1, f2, f3⟩ := id hg0
  refine z_aload_n (pc' := 1) X dJ2_grow_0 rfl rfl ?_
  refine z_aload_n (pc' := 2) X dJ2_grow_1 rfl rfl ?_
  refine z_get1 (pc' := 5) (kf := 2) X in_J2 rfl (by decide) q201 (Or.inl rfl) f1 rfl dJ2_grow_2 rfl ?_
  refine z_iconst (pc' := 6) X dJ2_grow_5 rfl ?_
  refine z_iadd (pc' := 7) X dJ2_grow_6 rfl ?_
  refine z_callV1 (pc' := 10) X Y_J2_grow_2 q316 dJ2_grow_7 rfl (Nat.le_of_ble_eq_true rfl) (Nat.le_of_ble_eq_true rfl) (Nat.le_of_ble_eq_true rfl) rfl rfl (Nat.le_of_ble_eq_true rfl) rfl ⟨_, f1⟩ (c_J2_grow_2 _ _ _ a ar m xs ci r hc hca hg0 hxs hci) (fun v1 h1 p1 => ?_)
  obtain ⟨a2, cap2, f2x, ev1, hx1⟩ := p1
  subst ev1
  dsimp only [zst]
  refine z_aret1 X (Or.inr ⟨_, rfl⟩) dJ2_grow_10 (Nat.le_of_ble_eq_true rfl) (Nat.le_of_ble_eq_true rfl) ?_
  exact ⟨a2, cap2, f2x, rfl, hx1⟩
theorem Y_J2_add_2 : zYV yJ2_add_2 cJ2_add_2 4 none 3 := ⟨⟨q310, qs0, q117, q311⟩, by decide +kernel, by decide⟩
set_option maxRecDepth 100000 in
theorem c_J2_add_2_v (l : Launch) (g : zG) (h : GH) (a q : Nat) (m : Int) (xs : List Nat) (fs : List Value) (ci : Nat) (r : vw_C) (hc : zCl[ci]? = some r) (hca : Cond.castable r.1 "java/lang/Object" ∈ lw_tbl) (hq : h q = some (zO ci fs)) (h0 : xs = []) (f1 : h a = some (zO 13 [vI m, vR (g.2.2 6), vI (xs.length : Int)])) (hci : ci ≠ 13) : zMet l yJ2_add_2 cJ2_add_2 4 none 8 1 60 [vR a, vR q, vR (g.2.2 6), vI (xs.length : Int)] g h (fun v h' => v = none ∧ ∃ ar', alA g.2.2 h' a ar' (xs ++ [q]) ∧ hF h (fpL a none) h' ∧ ∀ x, ar' = some x → none = some x ∨ h x = none) := by
  refine zMet.mkF (L0 := [some (vR a), some (vR q), some (vR (g.2.2 6)), some (vI (xs.length : Int))]) (by decide +kernel) rfl (Nat.le_of_ble_eq_true rfl) rfl (fun C hg hl hnm X => ?_)
  subst hg hl
  have w0 : hF h (fpL a none) h := hF.rf
  refine z_iload_n (pc' := 1) X dJ2_add_2_0 rfl rfl ?_
  refine z_aload_n (pc' := 2) X dJ2_add_2_1 rfl rfl ?_
  refine z_alen6 (pc' := 3) X dJ2_add_2_2 rfl ?_
  refine z_icmp_ne (tgt := 11) (pc' := 6) X (by first | assumption | omega | (rw [h0]; decide)) (by first | assumption | omega | (rw [h0]; decide)) dJ2_add_2_3 rfl (by decide) (fun c3 => ?_) (fun c3 => ?_)
  · exact absurd (by rw [h0]; rfl) c3
  · refine z_aload_n (pc' := 7) X dJ2_add_2_6 rfl rfl ?_
    refine z_callV1 (pc' := 10) X Y_J2_grow q312 dJ2_add_2_7 rfl (Nat.le_of_ble_eq_true rfl) (Nat.le_of_ble_eq_true rfl) (Nat.le_of_ble_eq_true rfl) rfl rfl (Nat.le_of_ble_eq_true rfl) rfl ⟨_, f1⟩ (c_J2_grow _ _ _ a none m xs ci r hc hca ⟨f1, fun _ => h0, fun x hx => (nomatch hx)⟩ (fun x hx => by rw [h0] at hx; cases hx) hci) (fun v1 h1 p1 => ?_)
    obtain ⟨a2, cap2, f2x, ev1, hn2, ga1, gb1, hc1, hc2, hf2, hfr1⟩ := p1
    subst ev1
    dsimp only [zst]
    obtain ⟨fq, hq1⟩ : ∃ fs, h1 q = some (zO ci fs) := ⟨fs, hfr1.2 _ _ hq (fun hh => by rw [hh, f1] at hq; cases hq; exact hci rfl)⟩
    have w1 : hF h (fpL a none) h1 := w0.trans hfr1 (fun x hx => Or.inl (Or.inl hx))
    refine z_astore_n (pc' := 11) X dJ2_add_2_10 rfl (by decide) rfl ?_
    dsimp only [List.set]
    refine z_aload_n (pc' := 12) X dJ2_add_2_11 rfl rfl ?_
    refine z_iload_n (pc' := 13) X dJ2_add_2_12 rfl rfl ?_
    refine z_aload_n (pc' := 14) X dJ2_add_2_13 rfl rfl ?_
    refine z_aastO1 (pc' := 15) X (t0 := 4) (ci := ci) (fun _ => rfl) hc hca gb1 ⟨_, hq1⟩ (by first | assumption | omega | (rw [h0]; decide)) (by omega) dJ2_add_2_14 rfl (fun h2 e2 => ?_)
    have g2 := (congrFun e2 a2).trans hset_s
    have fa3 := (congrFun e2 _).trans (hset_oa ga1 gb1)
    have fa4 := (congrFun e2 _).trans (hset_oa hq1 gb1)
    have w2 : hF h (fpL a none) h2 := by rw [e2]; exact w1.set (Or.inr hn2)
    refine z_aload_n (pc' := 16) X dJ2_add_2_15 rfl rfl ?_
    refine z_iload_n (pc' := 17) X dJ2_add_2_16 rfl rfl ?_
    refine z_iconst (pc' := 18) X dJ2_add_2_17 rfl ?_
    refine z_iadd (pc' := 19) X dJ2_add_2_18 rfl ?_
    refine z_put1 (pc' := 22) (kf := 2) X in_J2 tyJ2 tyJ2_ok nmJ2 rfl (by decide) q201 (Or.inl rfl) rfl rfl rfl (Nat.le_of_ble_eq_true rfl) fa3 dJ2_add_2_19 rfl (fun h5 e5 => ?_)
    have g5 := (congrFun e5 a).trans hset_s
    try dsimp only [List.set] at g5
    have fa6 := (congrFun e5 _).trans (hset_ao g2 fa3)
    have fa7 := (congrFun e5 _).trans (hset_oo fa4 fa3 (hci))
    have w5 : hF h (fpL a none) h5 := by rw [e5]; exact w2.set (Or.inl (Or.inl rfl))
    refine z_ret1 X dJ2_add_2_22 (Nat.le_of_ble_eq_true rfl) (Nat.le_of_ble_eq_true rfl) ?_
    refine ⟨rfl, some a2, ⟨⟨m, by rw [List.length_append]; exact g5⟩, fun hh => (nomatch hh), fun x hx => ?_⟩, w5, fun x hx => by cases hx; exact Or.inr hn2⟩
    cases hx
    exact ⟨cap2, _, fa6, ⟨by omega, by rw [List.length_append]; show _ + 1 ≤ cap2; omega, by omega⟩, fun k hk => fup_app hf2 hk⟩
set_option maxRecDepth 100000 in
theorem c_J2_add_2_s (l : Launch) (g : zG) (h : GH) (a a1 q cap : Nat) (m : Int) (xs : List Nat) (f : Nat → Option Nat) (fs : List Value) (ci : Nat) (r : vw_C) (hc : zCl[ci]? = some r) (hca : Cond.castable r.1 "java/lang/Object" ∈ lw_tbl) (hq : h q = some (zO ci fs)) (f1 : h a = some (zO 13 [vI m, vR a1, vI (xs.length : Int)])) (f4 : h a1 = some (zAq 14 cap f)) (f5 : 1 ≤ cap ∧ xs.length ≤ cap ∧ cap ≤ 60) (f6 : ∀ k, k < cap → f k = xs[k]?) (hl : xs.length ≤ 40) (hxs : ∀ x ∈ xs, ∃ fs, h x = some (zO ci fs)) (hci : ci ≠ 13) : zMet l yJ2_add_2 cJ2_add_2 4 none 8 1 60 [vR a, vR q, vR a1, vI (xs.length : Int)] g h (fun v h' => v = none ∧ ∃ ar', alA g.2.2 h' a ar' (xs ++ [q]) ∧ hF h (fpL a (some a1)) h' ∧ ∀ x, ar' = some x → some a1 = some x ∨ h x = none) := by
  refine zMet.mkF (L0 := [some (vR a), some (vR q), some (vR a1), some (vI (xs.length : Int))]) (by decide +kernel) rfl (Nat.le_of_ble_eq_true rfl) rfl (fun C hg hl hnm X => ?_)
  subst hg hl
  have w0 : hF h (fpL a (some a1)) h := hF.rf
  refine z_iload_n (pc' := 1) X dJ2_add_2_0 rfl rfl ?_
  refine z_aload_n (pc' := 2) X dJ2_add_2_1 rfl rfl ?_
  refine z_alen1 (pc' := 3) X (t0 := 4) (fun _ => rfl) f4 dJ2_add_2_2 rfl ?_
  refine z_icmp_ne (tgt := 11) (pc' := 6) X (by first | assumption | omega) (by first | assumption | omega) dJ2_add_2_3 rfl (by decide) (fun c3 => ?_) (fun c3 => ?_)
  · refine z_aload_n (pc' := 12) X dJ2_add_2_11 rfl rfl ?_
    refine z_iload_n (pc' := 13) X dJ2_add_2_12 rfl rfl ?_
    refine z_aload_n (pc' := 14) X dJ2_add_2_13 rfl rfl ?_
    refine z_aastO1 (pc' := 15) X (t0 := 4) (ci := ci) (fun _ => rfl) hc hca f4 ⟨_, hq⟩ (by first | assumption | omega) (by omega) dJ2_add_2_14 rfl (fun h1 e1 => ?_)
    have g1 := (congrFun e1 a1).trans hset_s
    have fa2 := (congrFun e1 _).trans (hset_oa f1 f4)
    have fa3 := (congrFun e1 _).trans (hset_oa hq f4)
    have w1 : hF h (fpL a (some a1)) h1 := by rw [e1]; exact w0.set (Or.inl (Or.inr rfl))
    refine z_aload_n (pc' := 16) X dJ2_add_2_15 rfl rfl ?_
    refine z_iload_n (pc' := 17) X dJ2_add_2_16 rfl rfl ?_
    refine z_iconst (pc' := 18) X dJ2_add_2_17 rfl ?_
    refine z_iadd (pc' := 19) X dJ2_add_2_18 rfl ?_
    refine z_put1 (pc' := 22) (kf := 2) X in_J2 tyJ2 tyJ2_ok nmJ2 rfl (by decide) q201 (Or.inl rfl) rfl rfl rfl (Nat.le_of_ble_eq_true rfl) fa2 dJ2_add_2_19 rfl (fun h4 e4 => ?_)
    have g4 := (congrFun e4 a).trans hset_s
    try dsimp only [List.set] at g4
    have fa5 := (congrFun e4 _).trans (hset_ao g1 fa2)
    have fa6 := (congrFun e4 _).trans (hset_oo fa3 fa2 (hci))
    have w4 : hF h (fpL a (some a1)) h4 := by rw [e4]; exact w1.set (Or.inl (Or.inl rfl))
    refine z_ret1 X dJ2_add_2_22 (Nat.le_of_ble_eq_true rfl) (Nat.le_of_ble_eq_true rfl) ?_
    refine ⟨rfl, some a1, ⟨⟨m, by rw [List.length_append]; exact g4⟩, fun hh => (nomatch hh), fun x hx => ?_⟩, w4, fun x hx => Or.inl hx⟩
    cases hx
    exact ⟨cap, _, fa5, ⟨by omega, by rw [List.length_append]; show _ + 1 ≤ cap; omega, by omega⟩, fun k hk => fup_app f6 hk⟩
  · obtain rfl : cap = xs.length := by omega
    refine z_aload_n (pc' := 7) X dJ2_add_2_6 rfl rfl ?_
    refine z_callV1 (pc' := 10) X Y_J2_grow q312 dJ2_add_2_7 rfl (Nat.le_of_ble_eq_true rfl) (Nat.le_of_ble_eq_true rfl) (Nat.le_of_ble_eq_true rfl) rfl rfl (Nat.le_of_ble_eq_true rfl) rfl ⟨_, f1⟩ (c_J2_grow _ _ _ a (some a1) m xs ci r hc hca ⟨f1, fun hx => (nomatch hx), fun x hx => by cases hx; exact ⟨f, f4, by omega, f6⟩⟩ hxs hci) (fun v7 h7 p7 => ?_)
    obtain ⟨a2, cap2, f2x, ev7, hn2, ga7, gb7, hc1, hc2, hf2, hfr7⟩ := p7
    subst ev7
    dsimp only [zst]
    obtain ⟨fq, hq7⟩ : ∃ fs, h7 q = some (zO ci fs) := ⟨fs, hfr7.2 _ _ hq (fun hh => by rw [hh, f1] at hq; cases hq; exact hci rfl)⟩
    have w7 : hF h (fpL a (some a1)) h7 := w0.trans hfr7 (fun x hx => Or.inl (Or.inl hx))
    refine z_astore_n (pc' := 11) X dJ2_add_2_10 rfl (by decide) rfl ?_
    dsimp only [List.set]
    refine z_aload_n (pc' := 12) X dJ2_add_2_11 rfl rfl ?_
    refine z_iload_n (pc' := 13) X dJ2_add_2_12 rfl rfl ?_
    refine z_aload_n (pc' := 14) X dJ2_add_2_13 rfl rfl ?_
    refine z_aastO1 (pc' := 15) X (t0 := 4) (ci := ci) (fun _ => rfl) hc hca gb7 ⟨_, hq7⟩ (by first | assumption | omega) (by omega) dJ2_add_2_14 rfl (fun h8 e8 => ?_)
    have g8 := (congrFun e8 a2).trans hset_s
    have fa9 := (congrFun e8 _).trans (hset_oa ga7 gb7)
    have fa10 := (congrFun e8 _).trans (hset_oa hq7 gb7)
    have w8 : hF h (fpL a (some a1)) h8 := by rw [e8]; exact w7.set (Or.inr hn2)
    refine z_aload_n (pc' := 16) X dJ2_add_2_15 rfl rfl ?_
    refine z_iload_n (pc' := 17) X dJ2_add_2_16 rfl rfl ?_
    refine z_iconst (pc' := 18) X dJ2_add_2_17 rfl ?_
    refine z_iadd (pc' := 19) X dJ2_add_2_18 rfl ?_
    refine z_put1 (pc' := 22) (kf := 2) X in_J2 tyJ2 tyJ2_ok nmJ2 rfl (by decide) q201 (Or.inl rfl) rfl rfl rfl (Nat.le_of_ble_eq_true rfl) fa9 dJ2_add_2_19 rfl (fun h11 e11 => ?_)
    have g11 := (congrFun e11 a).trans hset_s
    try dsimp only [List.set] at g11
    have fa12 := (congrFun e11 _).trans (hset_ao g8 fa9)
    have fa13 := (congrFun e11 _).trans (hset_oo fa10 fa9 (hci))
    have w11 : hF h (fpL a (some a1)) h11 := by rw [e11]; exact w8.set (Or.inl (Or.inl rfl))
    refine z_ret1 X dJ2_add_2_22 (Nat.le_of_ble_eq_true rfl) (Nat.le_of_ble_eq_true rfl) ?_
    refine ⟨rfl, some a2, ⟨⟨m, by rw [List.length_append]; exact g11⟩, fun hh => (nomatch hh), fun x hx => ?_⟩, w11, fun x hx => by cases hx; exact Or.inr hn2⟩
    cases hx
    exact ⟨cap2, _, fa12, ⟨by omega, by rw [List.length_append]; show _ + 1 ≤ cap2; omega, by omega⟩, fun k hk => fup_app hf2 hk⟩
theorem c_J2_add_2 (l : Launch) (g : zG) (h : GH) (a q : Nat) (ar : Option Nat) (xs : List Nat) (fs : List Value) (ci : Nat) (r : vw_C) (hc : zCl[ci]? = some r) (hca : Cond.castable r.1 "java/lang/Object" ∈ lw_tbl) (hq : h q = some (zO ci fs)) (hal : alA g.2.2 h a ar xs) (hl : xs.length ≤ 40) (hxs : ∀ x ∈ xs, ∃ fs, h x = some (zO ci fs)) (hci : ci ≠ 13) : zMet l yJ2_add_2 cJ2_add_2 4 none 8 1 60 [vR a, vR q, vR (ar.getD (g.2.2 6)), vI (xs.length : Int)] g h (fun v h' => v = none ∧ ∃ ar', alA g.2.2 h' a ar' (xs ++ [q]) ∧ hF h (fpL a ar) h' ∧ ∀ x, ar' = some x → ar = some x ∨ h x = none) := by
  obtain ⟨⟨m, f1⟩, f2, f3⟩ := hal
  cases ar with
  | none => exact c_J2_add_2_v l g h a q m xs fs ci r hc hca hq (f2 rfl) f1 hci
  | some a1 =>
    obtain ⟨cap, f, e1, e2, e3⟩ := f3 a1 rfl
    exact c_J2_add_2_s l g h a a1 q cap m xs f fs ci r hc hca hq f1 e1 e2 e3 hl hxs hci
set_option maxRecDepth 100000 in
theorem c_J2_add (l : Launch) (g : zG) (h : GH) (a q : Nat) (ar : Option Nat) (xs : List Nat) (fs : List Value) (ci : Nat) (r : vw_C) (hc : zCl[ci]? = some r) (hca : Cond.castable r.1 "java/lang/Object" ∈ lw_tbl) (hq : h q = some (zO ci fs)) (hal : alA g.2.2 h a ar xs) (hl : xs.length ≤ 40) (hxs : ∀ x ∈ xs, ∃ fs, h x = some (zO ci fs)) (hci : ci ≠ 13) : zMet l yJ2_add cJ2_add 2 (some .boolean) 9 1 60 [vR a, vR q] g h (fun v h' => v = some (vI 1) ∧ ∃ ar', alA g.2.2 h' a ar' (xs ++ [q]) ∧ hF h (fpL a ar) h' ∧ ∀ x, ar' = some x → ar = some x ∨ h x = none) := by
  refine zMet.mkF (L0 := [some (vR a), some (vR q)]) (by decide +kernel) rfl (Nat.le_of_ble_eq_true rfl) rfl (fun C hg hl hnm X => ?_)
  subst hg hl
  obtain ⟨⟨m, f1⟩, f2, f3⟩ := id hal
  have w0 : hF h (fpL a ar) h := hF.rf
  refine z_aload_n (pc' := 1) X dJ2_add_0 rfl rfl ?_
  refine z_dup (pc' := 2) X rfl dJ2_add_1 rfl ?_
  refine z_get1 (pc' := 5) (kf := 0) X in_J2 rfl (by decide) q203 (Or.inr q204) f1 rfl dJ2_add_2 rfl ?_
  refine z_iconst (pc' := 6) X dJ2_add_5 rfl ?_
  refine z_iadd (pc' := 7) X dJ2_add_6 rfl ?_
  refine z_put1 (pc' := 10) (kf := 0) X in_J2 tyJ2 tyJ2_ok nmJ2 rfl (by decide) q203 (Or.inr q204) rfl rfl rfl (Nat.le_of_ble_eq_true rfl) f1 dJ2_add_7 rfl (fun h1 e1 => ?_)
  have g1 := (congrFun e1 a).trans hset_s
  try dsimp only [List.set] at g1
  have fa2 := (congrFun e1 _).trans (hset_oo hq f1 (hci))
  have w1 : hF h (fpL a ar) h1 := by rw [e1]; exact w0.set (Or.inl (Or.inl rfl))
  have hal2 : alA (zg C).2.2 h1 a ar xs := by rw [e1]; exact hal.mod f1
  have hxs2 : ∀ x ∈ xs, ∃ fs, h1 x = some (zO ci fs) := fun x hx => by obtain ⟨fs, e⟩ := hxs x hx; exact ⟨fs, (congrFun e1 x).trans (hset_oo e f1 hci)⟩
  refine z_aload_n (pc' := 11) X dJ2_add_10 rfl rfl ?_
  refine z_aload_n (pc' := 12) X dJ2_add_11 rfl rfl ?_
  refine z_aload_n (pc' := 13) X dJ2_add_12 rfl rfl ?_
  refine z_get1 (pc' := 16) (kf := 1) X in_J2 rfl (by decide) q200 (Or.inl rfl) g1 rfl dJ2_add_13 rfl ?_
  refine z_aload_n (pc' := 17) X dJ2_add_16 rfl rfl ?_
  refine z_get1 (pc' := 20) (kf := 2) X in_J2 rfl (by decide) q201 (Or.inl rfl) g1 rfl dJ2_add_17 rfl ?_
  refine z_callV1 (pc' := 23) X Y_J2_add_2 q308 dJ2_add_20 rfl (Nat.le_of_ble_eq_true rfl) (Nat.le_of_ble_eq_true rfl) (Nat.le_of_ble_eq_true rfl) rfl rfl (Nat.le_of_ble_eq_true rfl) rfl ⟨_, g1⟩ (c_J2_add_2 _ _ _ a q ar xs fs ci r hc hca fa2 hal2 hl hxs2 hci) (fun v3 h3 p3 => ?_)
  obtain ⟨ev3, ar', hb1, hb2, hb3⟩ := p3
  subst ev3
  dsimp only [zst]
  refine z_iconst (pc' := 24) X dJ2_add_23 rfl ?_
  refine z_zret1 X dJ2_add_24 (by exact nar_1) (Nat.le_of_ble_eq_true rfl) (Nat.le_of_ble_eq_true rfl) ?_
  exact ⟨rfl, ar', hb1, w1.trans hb2 (fun _ hh => Or.inl hh), fun x hx => (hb3 x hx).elim Or.inl (fun hh => Or.inr (w1.1 x hh))⟩
theorem Y_J2_fastRemove : zYV yJ2_fastRemove cJ2_fastRemove 4 none 2 := ⟨⟨q743, qs8, q117, q744⟩, by decide +kernel, by decide⟩
set_option maxRecDepth 100000 in
theorem c_J2_fastRemove (l : Launch) (g : zG) (h : GH) (a a1 : Nat) (xs : List Nat) (i : Int) (ci : Nat) (r : vw_C) (hc : zCl[ci]? = some r) (hca : Cond.castable r.1 "java/lang/Object" ∈ lw_tbl) (hal : alA g.2.2 h a (some a1) xs) (hi : 0 ≤ i ∧ i < (xs.length : Int)) (hxs : ∀ x ∈ xs, ∃ fs, h x = some (zO ci fs)) (hci : ci ≠ 13) : zMet l yJ2_fastRemove cJ2_fastRemove 4 none 2 0 0 [vR a, vR a1, vI i] g h (fun v h' => v = none ∧ alA g.2.2 h' a (some a1) (xs.eraseIdx i.toNat) ∧ (∃ cap f, h' a1 = some (zAq 14 cap f) ∧ (xs.eraseIdx i.toNat).length < cap) ∧ hF h (fpL a (some a1)) h') := by
  refine zMet.mkF (L0 := [some (vR a), some (vR a1), some (vI i), none]) (by decide +kernel) rfl (Nat.le_of_ble_eq_true rfl) rfl (fun C hg hl hnm X => ?_)
  subst hg hl
  obtain ⟨⟨m, f1⟩, f2, f3⟩ := id hal
  obtain ⟨cap, f, f4, f5, f6⟩ := f3 a1 rfl
  dsimp only [Option.getD_some] at f1
  have w0 : hF h (fpL a (some a1)) h := hF.rf
  refine z_aload_n (pc' := 1) X dJ2_fastRemove_0 rfl rfl ?_
  refine z_dup (pc' := 2) X rfl dJ2_fastRemove_1 rfl ?_
  refine z_get1 (pc' := 5) (kf := 0) X in_J2 rfl (by decide) q203 (Or.inr q204) f1 rfl dJ2_fastRemove_2 rfl ?_
  refine z_iconst (pc' := 6) X dJ2_fastRemove_5 rfl ?_
  refine z_iadd (pc' := 7) X dJ2_fastRemove_6 rfl ?_
  refine z_put1 (pc' := 10) (kf := 0) X in_J2 tyJ2 tyJ2_ok nmJ2 rfl (by decide) q203 (Or.inr q204) rfl rfl rfl (Nat.le_of_ble_eq_true rfl) f1 dJ2_fastRemove_7 rfl (fun h1 e1 => ?_)
  have g1 := (congrFun e1 a).trans hset_s
  try dsimp only [List.set] at g1
  have fa2 := (congrFun e1 _).trans (hset_ao f4 f1)
  have w1 : hF h (fpL a (some a1)) h1 := by rw [e1]; exact w0.set (Or.inl (Or.inl rfl))
  refine z_aload_n (pc' := 11) X dJ2_fastRemove_10 rfl rfl ?_
  refine z_get1 (pc' := 14) (kf := 2) X in_J2 rfl (by decide) q201 (Or.inl rfl) g1 rfl dJ2_fastRemove_11 rfl ?_
  refine z_iconst (pc' := 15) X dJ2_fastRemove_14 rfl ?_
  refine z_isub (pc' := 16) X dJ2_fastRemove_15 rfl ?_
  refine z_dup (pc' := 17) X rfl dJ2_fastRemove_16 rfl ?_
  refine z_istore_n (pc' := 18) X dJ2_fastRemove_17 rfl (by decide) rfl ?_
  dsimp only [List.set]
  refine z_iload_n (pc' := 19) X dJ2_fastRemove_18 rfl rfl ?_
  refine z_icmp_le (tgt := 34) (pc' := 22) X (by first | assumption | omega) (by first | assumption | omega) dJ2_fastRemove_19 rfl (by decide) (fun c19 => ?_) (fun c19 => ?_)
  · refine z_aload_n (pc' := 35) X dJ2_fastRemove_34 rfl rfl ?_
    refine z_aload_n (pc' := 36) X dJ2_fastRemove_35 rfl rfl ?_
    refine z_iload_n (pc' := 37) X dJ2_fastRemove_36 rfl rfl ?_
    refine z_dup_x1 (pc' := 38) X rfl rfl dJ2_fastRemove_37 rfl ?_
    refine z_put1 (pc' := 41) (kf := 2) X in_J2 tyJ2 tyJ2_ok nmJ2 rfl (by decide) q201 (Or.inl rfl) rfl rfl rfl (Nat.le_of_ble_eq_true rfl) g1 dJ2_fastRemove_38 rfl (fun h3 e3 => ?_)
    have g3 := (congrFun e3 a).trans hset_s
    try dsimp only [List.set] at g3
    have fa4 := (congrFun e3 _).trans (hset_ao fa2 g1)
    have w3 : hF h (fpL a (some a1)) h3 := by rw [e3]; exact w1.set (Or.inl (Or.inl rfl))
    refine z_null (pc' := 42) X dJ2_fastRemove_41 rfl ?_
    refine z_aastN1 (pc' := 43) X (t0 := 4) (fun _ => rfl) fa4 (by first | assumption | omega) (by omega) dJ2_fastRemove_42 rfl (fun h5 e5 => ?_)
    have g5 := (congrFun e5 a1).trans hset_s
    have fa6 := (congrFun e5 _).trans (hset_oa g3 fa4)
    have w5 : hF h (fpL a (some a1)) h5 := by rw [e5]; exact w3.set (Or.inl (Or.inr rfl))
    refine z_ret1 X dJ2_fastRemove_43 (Nat.le_of_ble_eq_true rfl) (Nat.le_of_ble_eq_true rfl) ?_
    refine ⟨rfl, ⟨⟨(m + 1), by rw [show ((xs.eraseIdx i.toNat).length : Int) = (xs.length : Int) - 1 by rw [List.length_eraseIdx, if_pos (by omega)]; omega]; exact fa6⟩, fun hh => (nomatch hh), fun x hx => ?_⟩, ⟨cap, _, g5, by rw [List.length_eraseIdx, if_pos (by omega)]; omega⟩, w5⟩
    cases hx
    exact ⟨cap, _, g5, ⟨f5.1, by rw [List.length_eraseIdx, if_pos (by omega)]; omega, f5.2.2⟩, fun k hk => er_none (fun hh => by rw [hh] at hi; simp at hi; omega) f6 (by omega) hk⟩
  · refine z_aload_n (pc' := 23) X dJ2_fastRemove_22 rfl rfl ?_
    refine z_iload_n (pc' := 24) X dJ2_fastRemove_23 rfl rfl ?_
    refine z_iconst (pc' := 25) X dJ2_fastRemove_24 rfl ?_
    refine z_iadd (pc' := 26) X dJ2_fastRemove_25 rfl ?_
    refine z_aload_n (pc' := 27) X dJ2_fastRemove_26 rfl rfl ?_
    refine z_iload_n (pc' := 28) X dJ2_fastRemove_27 rfl rfl ?_
    refine z_iload_n (pc' := 29) X dJ2_fastRemove_28 rfl rfl ?_
    refine z_iload_n (pc' := 30) X dJ2_fastRemove_29 rfl rfl ?_
    refine z_isub (pc' := 31) X dJ2_fastRemove_30 rfl ?_
    refine z_copyq (pc' := 34) X q745 dJ2_fastRemove_31 rfl (by decide) (Nat.le_of_ble_eq_true rfl) hc hca fa2 fa2 (by first | assumption | omega) (by first | assumption | omega) (by first | assumption | omega) (by first | assumption | omega) (by first | assumption | omega) (by first | assumption | omega) (fun j hj y hy => by rw [f6 _ (by omega)] at hy; obtain ⟨fs, e⟩ := hxs y (List.mem_of_getElem? hy); exact ⟨fs, (congrFun e1 y).trans (hset_oo e f1 hci)⟩) (fun h7 e7 => ?_)
    have g7 := (congrFun e7 a1).trans hset_s
    have fa8 := (congrFun e7 _).trans (hset_oa g1 fa2)
    have w7 : hF h (fpL a (some a1)) h7 := by rw [e7]; exact w1.set (Or.inl (Or.inr rfl))
    refine z_aload_n (pc' := 35) X dJ2_fastRemove_34 rfl rfl ?_
    refine z_aload_n (pc' := 36) X dJ2_fastRemove_35 rfl rfl ?_
    refine z_iload_n (pc' := 37) X dJ2_fastRemove_36 rfl rfl ?_
    refine z_dup_x1 (pc' := 38) X rfl rfl dJ2_fastRemove_37 rfl ?_
    refine z_put1 (pc' := 41) (kf := 2) X in_J2 tyJ2 tyJ2_ok nmJ2 rfl (by decide) q201 (Or.inl rfl) rfl rfl rfl (Nat.le_of_ble_eq_true rfl) fa8 dJ2_fastRemove_38 rfl (fun h9 e9 => ?_)
    have g9 := (congrFun e9 a).trans hset_s
    try dsimp only [List.set] at g9
    have fa10 := (congrFun e9 _).trans (hset_ao g7 fa8)
    have w9 : hF h (fpL a (some a1)) h9 := by rw [e9]; exact w7.set (Or.inl (Or.inl rfl))
    refine z_null (pc' := 42) X dJ2_fastRemove_41 rfl ?_
    refine z_aastN1 (pc' := 43) X (t0 := 4) (fun _ => rfl) fa10 (by first | assumption | omega) (by omega) dJ2_fastRemove_42 rfl (fun h11 e11 => ?_)
    have g11 := (congrFun e11 a1).trans hset_s
    have fa12 := (congrFun e11 _).trans (hset_oa g9 fa10)
    have w11 : hF h (fpL a (some a1)) h11 := by rw [e11]; exact w9.set (Or.inl (Or.inr rfl))
    refine z_ret1 X dJ2_fastRemove_43 (Nat.le_of_ble_eq_true rfl) (Nat.le_of_ble_eq_true rfl) ?_
    refine ⟨rfl, ⟨⟨(m + 1), by rw [show ((xs.eraseIdx i.toNat).length : Int) = (xs.length : Int) - 1 by rw [List.length_eraseIdx, if_pos (by omega)]; omega]; exact fa12⟩, fun hh => (nomatch hh), fun x hx => ?_⟩, ⟨cap, _, g11, by rw [List.length_eraseIdx, if_pos (by omega)]; omega⟩, w11⟩
    cases hx
    exact ⟨cap, _, g11, ⟨f5.1, by rw [List.length_eraseIdx, if_pos (by omega)]; omega, f5.2.2⟩, fun k hk => er_cpy f6 f5.2.1 hi.1 (by omega) hk⟩
set_option maxRecDepth 100000 in
theorem c_J2_remove (l : Launch) (g : zG) (h : GH) (a a1 : Nat) (xs : List Nat) (i : Int) (q : Nat) (ci : Nat) (r : vw_C) (hc : zCl[ci]? = some r) (hca : Cond.castable r.1 "java/lang/Object" ∈ lw_tbl) (hal : alA g.2.2 h a (some a1) xs) (hi : 0 ≤ i) (hq : xs[i.toNat]? = some q) (hxs : ∀ x ∈ xs, ∃ fs, h x = some (zO ci fs)) (hci : ci ≠ 13) : zMet l yJ2_remove cJ2_remove 4 (some (.object "java/lang/Object")) 4 0 0 [vR a, vI i] g h (fun v h' => v = some (vR q) ∧ alA g.2.2 h' a (some a1) (xs.eraseIdx i.toNat) ∧ (∃ cap f, h' a1 = some (zAq 14 cap f) ∧ (xs.eraseIdx i.toNat).length < cap) ∧ hF h (fpL a (some a1)) h') := by
  refine zMet.mkF (L0 := [some (vR a), some (vI i), none, none]) (by decide +kernel) rfl (Nat.le_of_ble_eq_true rfl) rfl (fun C hg hl hnm X => ?_)
  subst hg hl
  obtain ⟨⟨m, f1⟩, f2, f3⟩ := id hal
  obtain ⟨cap, f, f4, f5, f6⟩ := f3 a1 rfl
  dsimp only [Option.getD_some] at f1
  have hl := (List.getElem?_eq_some_iff.mp hq).1
  refine z_iload_n (pc' := 1) X dJ2_remove_0 rfl rfl ?_
  refine z_aload_n (pc' := 2) X dJ2_remove_1 rfl rfl ?_
  refine z_get1 (pc' := 5) (kf := 2) X in_J2 rfl (by decide) q201 (Or.inl rfl) f1 rfl dJ2_remove_2 rfl ?_
  refine z_callS0 (pc' := 8) X Y_J17_checkIndex q557 dJ2_remove_5 rfl (Nat.le_of_ble_eq_true rfl) (Nat.le_of_ble_eq_true rfl) (Nat.le_of_ble_eq_true rfl) rfl rfl (Nat.le_of_ble_eq_true rfl) (c_J17_checkIndex _ _ _ (i) ((xs.length : Int)) (by first | assumption | omega) (by first | assumption | omega)) ?_
  dsimp only [zst]
  refine z_pop (pc' := 9) X rfl dJ2_remove_8 rfl ?_
  refine z_aload_n (pc' := 10) X dJ2_remove_9 rfl rfl ?_
  refine z_get1 (pc' := 13) (kf := 1) X in_J2 rfl (by decide) q200 (Or.inl rfl) f1 rfl dJ2_remove_10 rfl ?_
  refine z_astore_n (pc' := 14) X dJ2_remove_13 rfl (by decide) rfl ?_
  dsimp only [List.set]
  refine z_aload_n (pc' := 15) X dJ2_remove_14 rfl rfl ?_
  refine z_iload_n (pc' := 16) X dJ2_remove_15 rfl rfl ?_
  refine z_aald1 (pc' := 17) X (t0 := 4) (fun _ => rfl) f4 (by first | assumption | omega) (by omega) dJ2_remove_16 rfl ?_
  rw [show f i.toNat = some q by rw [f6 _ (by omega)]; exact hq]
  refine z_astore_n (pc' := 18) X dJ2_remove_17 rfl (by decide) rfl ?_
  dsimp only [List.set]
  refine z_aload_n (pc' := 19) X dJ2_remove_18 rfl rfl ?_
  refine z_aload_n (pc' := 20) X dJ2_remove_19 rfl rfl ?_
  refine z_iload_n (pc' := 21) X dJ2_remove_20 rfl rfl ?_
  refine z_callV1 (pc' := 24) X Y_J2_fastRemove q741 dJ2_remove_21 rfl (Nat.le_of_ble_eq_true rfl) (Nat.le_of_ble_eq_true rfl) (Nat.le_of_ble_eq_true rfl) rfl rfl (Nat.le_of_ble_eq_true rfl) rfl ⟨_, f1⟩ (c_J2_fastRemove _ _ _ a a1 xs i ci r hc hca hal (by omega) hxs hci) (fun v2 h2 p2 => ?_)
  obtain ⟨ev2, p2⟩ := p2
  subst ev2
  dsimp only [zst]
  refine z_aload_n (pc' := 25) X dJ2_remove_24 rfl rfl ?_
  refine z_aret1 X (Or.inl ⟨_, rfl⟩) dJ2_remove_25 (Nat.le_of_ble_eq_true rfl) (Nat.le_of_ble_eq_true rfl) ?_
  exact ⟨rfl, p2⟩
theorem Y_J2_rangeCheckForAdd : zYV yJ2_rangeCheckForAdd cJ2_rangeCheckForAdd 2 none 1 := ⟨⟨q1564, qs36, q117, q1565⟩, by decide +kernel, by decide⟩
set_option maxRecDepth 100000 in
theorem c_J2_rangeCheckForAdd (l : Launch) (g : zG) (h : GH) (a : Nat) (ar : Option Nat) (xs : List Nat) (i : Int) (hal : alA g.2.2 h a ar xs) (hi : 0 ≤ i ∧ i ≤ (xs.length : Int)) (hl : xs.length ≤ 1000) : zPur l yJ2_rangeCheckForAdd cJ2_rangeCheckForAdd 2 none 1 [vR a, vI i] g h (none) := by
  refine zMet.mkF (L0 := [some (vR a), some (vI i)]) (by decide +kernel) rfl (Nat.le_of_ble_eq_true rfl) rfl (fun C hg hl hnm X => ?_)
  subst hg hl
  obtain ⟨⟨m, f1⟩, f2, f3⟩ := id hal
  refine z_iload_n (pc' := 1) X dJ2_rangeCheckForAdd_0 rfl rfl ?_
  refine z_aload_n (pc' := 2) X dJ2_rangeCheckForAdd_1 rfl rfl ?_
  refine z_get1 (pc' := 5) (kf := 2) X in_J2 rfl (by decide) q201 (Or.inl rfl) f1 rfl dJ2_rangeCheckForAdd_2 rfl ?_
  refine z_icmp_gt (tgt := 12) (pc' := 8) X (by first | assumption | omega) (by first | assumption | omega) dJ2_rangeCheckForAdd_5 rfl (by decide) (fun c5 => ?_) (fun c5 => ?_)
  · exact absurd c5 (by omega)
  · refine z_iload_n (pc' := 9) X dJ2_rangeCheckForAdd_8 rfl rfl ?_
    refine z_if_ge (tgt := 25) (pc' := 12) X (by first | assumption | omega) dJ2_rangeCheckForAdd_9 rfl (by decide) (fun c9 => ?_) (fun c9 => ?_)
    · refine z_ret1 X dJ2_rangeCheckForAdd_25 (Nat.le_of_ble_eq_true rfl) (Nat.le_of_ble_eq_true rfl) ?_
      exact ⟨rfl, rfl⟩
    · exact absurd c9 (by omega)
set_option maxRecDepth 100000 in
theorem c_J2_add_3 (l : Launch) (g : zG) (h : GH) (a a1 : Nat) (xs : List Nat) (i : Int) (q : Nat) (fs : List Value) (ci : Nat) (r : vw_C) (hc : zCl[ci]? = some r) (hca : Cond.castable r.1 "java/lang/Object" ∈ lw_tbl) (hq : h q = some (zO ci fs)) (hal : alA g.2.2 h a (some a1) xs) (hroom : ∃ cap f, h a1 = some (zAq 14 cap f) ∧ xs.length < cap) (hi : 0 ≤ i ∧ i ≤ (xs.length : Int)) (hl : xs.length ≤ 40) (hxs : ∀ x ∈ xs, ∃ fs, h x = some (zO ci fs)) (hci : ci ≠ 13) : zMet l yJ2_add_3 cJ2_add_3 5 none 4 0 0 [vR a, vI i, vR q] g h (fun v h' => v = none ∧ alA g.2.2 h' a (some a1) (xs.insertIdx i.toNat q) ∧ hF h (fpL a (some a1)) h') := by
  refine zMet.mkF (L0 := [some (vR a), some (vI i), some (vR q), none, none]) (by decide +kernel) rfl (Nat.le_of_ble_eq_true rfl) rfl (fun C hg hl hnm X => ?_)
  subst hg hl
  obtain ⟨⟨m, f1⟩, f2, f3⟩ := id hal
  obtain ⟨cap, f, f4, f5, f6⟩ := f3 a1 rfl
  dsimp only [Option.getD_some] at f1
  have hr : xs.length < cap := by
    obtain ⟨c2, f9, e9, l9⟩ := hroom
    rw [f4] at e9
    cases e9
    exact l9
  have w0 : hF h (fpL a (some a1)) h := hF.rf
  refine z_aload_n (pc' := 1) X dJ2_add_3_0 rfl rfl ?_
  refine z_iload_n (pc' := 2) X dJ2_add_3_1 rfl rfl ?_
  refine z_callV0 (pc' := 5) X Y_J2_rangeCheckForAdd q1562 dJ2_add_3_2 rfl (Nat.le_of_ble_eq_true rfl) (Nat.le_of_ble_eq_true rfl) (Nat.le_of_ble_eq_true rfl) rfl rfl (Nat.le_of_ble_eq_true rfl) rfl ⟨_, f1⟩ (c_J2_rangeCheckForAdd _ _ _ a _ xs i hal hi (by omega)) ?_
  dsimp only [zst]
  refine z_aload_n (pc' := 6) X dJ2_add_3_5 rfl rfl ?_
  refine z_dup (pc' := 7) X rfl dJ2_add_3_6 rfl ?_
  refine z_get1 (pc' := 10) (kf := 0) X in_J2 rfl (by decide) q203 (Or.inr q204) f1 rfl dJ2_add_3_7 rfl ?_
  refine z_iconst (pc' := 11) X dJ2_add_3_10 rfl ?_
  refine z_iadd (pc' := 12) X dJ2_add_3_11 rfl ?_
  refine z_put1 (pc' := 15) (kf := 0) X in_J2 tyJ2 tyJ2_ok nmJ2 rfl (by decide) q203 (Or.inr q204) rfl rfl rfl (Nat.le_of_ble_eq_true rfl) f1 dJ2_add_3_12 rfl (fun h2 e2 => ?_)
  have g2 := (congrFun e2 a).trans hset_s
  try dsimp only [List.set] at g2
  have fa3 := (congrFun e2 _).trans (hset_ao f4 f1)
  have fa4 := (congrFun e2 _).trans (hset_oo hq f1 (hci))
  have w2 : hF h (fpL a (some a1)) h2 := by rw [e2]; exact w0.set (Or.inl (Or.inl rfl))
  refine z_aload_n (pc' := 16) X dJ2_add_3_15 rfl rfl ?_
  refine z_get1 (pc' := 19) (kf := 2) X in_J2 rfl (by decide) q201 (Or.inl rfl) g2 rfl dJ2_add_3_16 rfl ?_
  refine z_dup (pc' := 20) X rfl dJ2_add_3_19 rfl ?_
  refine z_istore_n (pc' := 21) X dJ2_add_3_20 rfl (by decide) rfl ?_
  dsimp only [List.set]
  refine z_aload_n (pc' := 22) X dJ2_add_3_21 rfl rfl ?_
  refine z_get1 (pc' := 25) (kf := 1) X in_J2 rfl (by decide) q200 (Or.inl rfl) g2 rfl dJ2_add_3_22 rfl ?_
  refine z_dup (pc' := 26) X rfl dJ2_add_3_25 rfl ?_
  refine z_astore (pc' := 28) X dJ2_add_3_26 rfl (by decide) rfl ?_
  dsimp only [List.set]
  refine z_alen1 (pc' := 29) X (t0 := 4) (fun _ => rfl) fa3 dJ2_add_3_28 rfl ?_
  refine z_icmp_ne (tgt := 38) (pc' := 32) X (by first | assumption | omega) (by first | assumption | omega) dJ2_add_3_29 rfl (by decide) (fun c29 => ?_) (fun c29 => ?_)
  · refine z_aload (pc' := 40) X dJ2_add_3_38 rfl rfl ?_
    refine z_iload_n (pc' := 41) X dJ2_add_3_40 rfl rfl ?_
    refine z_aload (pc' := 43) X dJ2_add_3_41 rfl rfl ?_
    refine z_iload_n (pc' := 44) X dJ2_add_3_43 rfl rfl ?_
    refine z_iconst (pc' := 45) X dJ2_add_3_44 rfl ?_
    refine z_iadd (pc' := 46) X dJ2_add_3_45 rfl ?_
    refine z_iload_n (pc' := 47) X dJ2_add_3_46 rfl rfl ?_
    refine z_iload_n (pc' := 48) X dJ2_add_3_47 rfl rfl ?_
    refine z_isub (pc' := 49) X dJ2_add_3_48 rfl ?_
    refine z_copyq (pc' := 52) X q745 dJ2_add_3_49 rfl (by decide) (Nat.le_of_ble_eq_true rfl) hc hca fa3 fa3 (by first | assumption | omega) (by first | assumption | omega) (by first | assumption | omega) (by first | assumption | omega) (by first | assumption | omega) (by first | assumption | omega) (fun j hj y hy => by rw [f6 _ (by omega)] at hy; obtain ⟨fs, e⟩ := hxs y (List.mem_of_getElem? hy); exact ⟨fs, (congrFun e2 y).trans (hset_oo e f1 hci)⟩) (fun h5 e5 => ?_)
    have g5 := (congrFun e5 a1).trans hset_s
    have fa6 := (congrFun e5 _).trans (hset_oa g2 fa3)
    have fa7 := (congrFun e5 _).trans (hset_oa fa4 fa3)
    have w5 : hF h (fpL a (some a1)) h5 := by rw [e5]; exact w2.set (Or.inl (Or.inr rfl))
    refine z_aload (pc' := 54) X dJ2_add_3_52 rfl rfl ?_
    refine z_iload_n (pc' := 55) X dJ2_add_3_54 rfl rfl ?_
    refine z_aload_n (pc' := 56) X dJ2_add_3_55 rfl rfl ?_
    refine z_aastO1 (pc' := 57) X (t0 := 4) (ci := ci) (fun _ => rfl) hc hca g5 ⟨_, fa7⟩ (by first | assumption | omega) (by omega) dJ2_add_3_56 rfl (fun h8 e8 => ?_)
    have g8 := (congrFun e8 a1).trans hset_s
    have fa9 := (congrFun e8 _).trans (hset_oa fa6 g5)
    have fa10 := (congrFun e8 _).trans (hset_oa fa7 g5)
    have w8 : hF h (fpL a (some a1)) h8 := by rw [e8]; exact w5.set (Or.inl (Or.inr rfl))
    refine z_aload_n (pc' := 58) X dJ2_add_3_57 rfl rfl ?_
    refine z_iload_n (pc' := 59) X dJ2_add_3_58 rfl rfl ?_
    refine z_iconst (pc' := 60) X dJ2_add_3_59 rfl ?_
    refine z_iadd (pc' := 61) X dJ2_add_3_60 rfl ?_
    refine z_put1 (pc' := 64) (kf := 2) X in_J2 tyJ2 tyJ2_ok nmJ2 rfl (by decide) q201 (Or.inl rfl) rfl rfl rfl (Nat.le_of_ble_eq_true rfl) fa9 dJ2_add_3_61 rfl (fun h11 e11 => ?_)
    have g11 := (congrFun e11 a).trans hset_s
    try dsimp only [List.set] at g11
    have fa12 := (congrFun e11 _).trans (hset_ao g8 fa9)
    have fa13 := (congrFun e11 _).trans (hset_oo fa10 fa9 (hci))
    have w11 : hF h (fpL a (some a1)) h11 := by rw [e11]; exact w8.set (Or.inl (Or.inl rfl))
    refine z_ret1 X dJ2_add_3_64 (Nat.le_of_ble_eq_true rfl) (Nat.le_of_ble_eq_true rfl) ?_
    refine ⟨rfl, ⟨⟨(m + 1), by rw [show ((xs.insertIdx i.toNat q).length : Int) = (xs.length : Int) + 1 by rw [List.length_insertIdx, if_pos (by omega)]; rfl]; exact g11⟩, fun hh => (nomatch hh), fun x hx => ?_⟩, w11⟩
    cases hx
    exact ⟨cap, _, fa12, ⟨f5.1, by rw [List.length_insertIdx, if_pos (by omega)]; omega, f5.2.2⟩, fun k hk => ins_cpy f6 (by omega) hi.1 hi.2 hk⟩
  · exact absurd c29 (by omega)
theorem Y_J0_init : zYI yJ0_init cJ0_init 1 0 := ⟨⟨q195, q115, q196⟩, by decide +kernel, by decide, rfl⟩
set_option maxRecDepth 100000 in
theorem c_J0_init (l : Launch) (g : zG) (h : GH) (a : Nat) (fs : List Value) (hq : h a = some (zO 13 fs)) : zPur l yJ0_init cJ0_init 1 none 1 [vR a] g h (none) := by
  refine zMet.mkF (L0 := [some (vR a)]) (by decide +kernel) rfl (Nat.le_of_ble_eq_true rfl) rfl (fun C hg hl hnm X => ?_)
  subst hg hl
  refine z_aload_n (pc' := 1) X dJ0_init_0 rfl rfl ?_
  refine z_objInit (pc' := 4) X q197 dJ0_init_1 rfl (Nat.le_of_ble_eq_true rfl) ?_
  refine z_ret1 X dJ0_init_4 (Nat.le_of_ble_eq_true rfl) (Nat.le_of_ble_eq_true rfl) ?_
  exact ⟨rfl, rfl⟩
theorem Y_J1_init : zYI yJ1_init cJ1_init 1 0 := ⟨⟨q192, q116, q193⟩, by decide +kernel, by decide, rfl⟩
set_option maxRecDepth 100000 in
theorem c_J1_init (l : Launch) (g : zG) (h : GH) (a : Nat) (v : Value) (n : Int) (hq : h a = some (zO 13 [vI 0, v, vI n])) : zMet l yJ1_init cJ1_init 1 none 2 0 0 [vR a] g h (fun w h' => w = none ∧ h' = hset h a (zO 13 [vI 0, v, vI n])) := by
  refine zMet.mkF (L0 := [some (vR a)]) (by decide +kernel) rfl (Nat.le_of_ble_eq_true rfl) rfl (fun C hg hl hnm X => ?_)
  subst hg hl
  refine z_aload_n (pc' := 1) X dJ1_init_0 rfl rfl ?_
  refine z_callI0 (pc' := 4) X Y_J0_init q194 dJ1_init_1 rfl (Nat.le_of_ble_eq_true rfl) (Nat.le_of_ble_eq_true rfl) (Nat.le_of_ble_eq_true rfl) rfl rfl (Nat.le_of_ble_eq_true rfl) (c_J0_init _ _ _ a _ hq) ?_
  dsimp only [zst]
  refine z_aload_n (pc' := 5) X dJ1_init_4 rfl rfl ?_
  refine z_iconst (pc' := 6) X dJ1_init_5 rfl ?_
  refine z_put1 (pc' := 9) (kf := 0) X in_J2 tyJ2 tyJ2_ok nmJ2 rfl (by decide) q202 (Or.inl rfl) rfl rfl rfl (Nat.le_of_ble_eq_true rfl) hq dJ1_init_6 rfl (fun h2 e2 => ?_)
  have g2 := (congrFun e2 a).trans hset_s
  try dsimp only [List.set] at g2
  refine z_ret1 X dJ1_init_9 (Nat.le_of_ble_eq_true rfl) (Nat.le_of_ble_eq_true rfl) ?_
  exact ⟨rfl, e2⟩
theorem Y_J2_init : zYI yJ2_init cJ2_init 1 0 := ⟨⟨q189, q117, q190⟩, by decide +kernel, by decide, rfl⟩
set_option maxRecDepth 100000 in
theorem c_J2_init (l : Launch) (g : zG) (h : GH) (a : Nat) (hq : h a = some (zO 13 [vI 0, .null, vI 0])) : zMet l yJ2_init cJ2_init 1 none 3 0 0 [vR a] g h (fun w h' => w = none ∧ alA g.2.2 h' a none [] ∧ hF h (fun x => x = a) h') := by
  refine zMet.mkF (L0 := [some (vR a)]) (by decide +kernel) rfl (Nat.le_of_ble_eq_true rfl) rfl (fun C hg hl hnm X => ?_)
  subst hg hl
  have w0 : hF h (fun x => x = a) h := hF.rf
  refine z_aload_n (pc' := 1) X dJ2_init_0 rfl rfl ?_
  refine z_callI1 (pc' := 4) X Y_J1_init q191 dJ2_init_1 rfl (Nat.le_of_ble_eq_true rfl) (Nat.le_of_ble_eq_true rfl) (Nat.le_of_ble_eq_true rfl) rfl rfl (Nat.le_of_ble_eq_true rfl) (c_J1_init _ _ _ a .null 0 hq) (fun v1 h1 p1 => ?_)
  obtain ⟨ev1, e1⟩ := p1
  subst ev1
  dsimp only [zst]
  have g1 := (congrFun e1 a).trans hset_s
  try dsimp only [List.set] at g1
  have w1 : hF h (fun x => x = a) h1 := by rw [e1]; exact w0.set (Or.inl rfl)
  refine z_aload_n (pc' := 5) X dJ2_init_4 rfl rfl ?_
  refine z_gets (pc' := 8) X (fun U hU => hU.2.2.1.1) q198 rfl dJ2_init_5 rfl ?_
  refine z_put1 (pc' := 11) (kf := 1) X in_J2 tyJ2 tyJ2_ok nmJ2 rfl (by decide) q200 (Or.inl rfl) rfl rfl rfl (Nat.le_of_ble_eq_true rfl) g1 dJ2_init_8 rfl (fun h2 e2 => ?_)
  have g2 := (congrFun e2 a).trans hset_s
  try dsimp only [List.set] at g2
  have w2 : hF h (fun x => x = a) h2 := by rw [e2]; exact w1.set (Or.inl rfl)
  refine z_ret1 X dJ2_init_11 (Nat.le_of_ble_eq_true rfl) (Nat.le_of_ble_eq_true rfl) ?_
  exact ⟨rfl, ⟨⟨0, g2⟩, fun _ => rfl, fun x hx => (nomatch hx)⟩, w2⟩
end ZAL2

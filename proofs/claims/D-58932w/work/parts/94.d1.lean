/-! ArrayDeque -/
section ZDEQ
def dqP (hd k : Int) : Int := if hd + k < 17 then hd + k else hd + k - 17
/-- the deque at dq with its array ea holds the addresses xs -/
def dqR (h : GH) (dq ea : Nat) (xs : List Nat) : Prop :=
  ∃ (hd : Int) (fe : Nat → Option Nat), h dq = some (zO 14 [vR ea, vI hd, vI (dqP hd (xs.length : Int))]) ∧ h ea = some (zAq 14 17 fe) ∧ (0 ≤ hd ∧ hd < 17) ∧ xs.length ≤ 6 ∧ ∀ k : Nat, k < xs.length → fe (dqP hd k).toNat = xs[k]?
theorem dqP_b {hd : Int} {k : Int} (h : 0 ≤ hd ∧ hd < 17) (hk : 0 ≤ k ∧ k ≤ 6) : 0 ≤ dqP hd k ∧ dqP hd k < 17 := by
  unfold dqP
  split <;> omega
theorem dqP_i {hd : Int} {j k : Int} (h : 0 ≤ hd ∧ hd < 17) (hj : 0 ≤ j ∧ j ≤ 6) (hk : 0 ≤ k ∧ k ≤ 6) (he : dqP hd j = dqP hd k) : j = k := by
  unfold dqP at he
  split at he <;> split at he <;> omega
theorem dqR.le {h h' : GH} {dq ea : Nat} {xs : List Nat} {F : Nat → Prop} (a : dqR h dq ea xs) (hf : hF h F h') (h1 : ¬ F dq) (h2 : ¬ F ea) : dqR h' dq ea xs := by
  obtain ⟨hd, fe, e1, e2, r⟩ := a
  exact ⟨hd, fe, hf.2 _ _ e1 h1, hf.2 _ _ e2 h2, r⟩
theorem fup_s {f : Nat → Option Nat} {i : Nat} {v : Option Nat} : fup f i v i = v := if_pos rfl
theorem fup_n {f : Nat → Option Nat} {i j : Nat} {v : Option Nat} (h : j ≠ i) : fup f i v j = f j := if_neg h
theorem Y_J6_inc : zYS yJ6_inc cJ6_inc 2 (some .int) 2 := ⟨⟨q1485, q127, q1486⟩, by decide +kernel, by decide⟩
set_option maxRecDepth 100000 in
theorem c_J6_inc (l : Launch) (g : zG) (h : GH) (i n : Int) (hi : 0 ≤ i ∧ i < n) (hn : n ≤ 1000) : zPur l yJ6_inc cJ6_inc 2 (some .int) 1 [vI i, vI n] g h (some (vI (if i + 1 < n then i + 1 else 0))) := by
  refine zMet.mkF (L0 := [some (vI i), some (vI n)]) (by decide +kernel) rfl (Nat.le_of_ble_eq_true rfl) rfl (fun C hg hl hnm X => ?_)
  subst hg hl
  refine z_iinc (pc' := 3) X dJ6_inc_0 rfl (by decide) rfl rfl ?_
  dsimp only [List.set]
  refine z_iload_n (pc' := 4) X dJ6_inc_3 rfl rfl ?_
  refine z_iload_n (pc' := 5) X dJ6_inc_4 rfl rfl ?_
  refine z_icmp_lt (tgt := 10) (pc' := 8) X (by first | assumption | omega) (by first | assumption | omega) dJ6_inc_5 rfl (by decide) (fun c5 => ?_) (fun c5 => ?_)
  · refine z_iload_n (pc' := 11) X dJ6_inc_10 rfl rfl ?_
    refine z_iret1 X dJ6_inc_11 (Nat.le_of_ble_eq_true rfl) (Nat.le_of_ble_eq_true rfl) ?_
    exact ⟨by rw [if_pos (by omega)], rfl⟩
  · refine z_iconst (pc' := 9) X dJ6_inc_8 rfl ?_
    refine z_istore_n (pc' := 10) X dJ6_inc_9 rfl (by decide) rfl ?_
    dsimp only [List.set]
    refine z_iload_n (pc' := 11) X dJ6_inc_10 rfl rfl ?_
    refine z_iret1 X dJ6_inc_11 (Nat.le_of_ble_eq_true rfl) (Nat.le_of_ble_eq_true rfl) ?_
    exact ⟨by rw [if_neg (by omega)], rfl⟩
theorem Y_J6_dec : zYS yJ6_dec cJ6_dec 2 (some .int) 2 := ⟨⟨q2047, q127, q2048⟩, by decide +kernel, by decide⟩
set_option maxRecDepth 100000 in
theorem c_J6_dec (l : Launch) (g : zG) (h : GH) (i n : Int) (hi : 0 ≤ i ∧ i < n) (hn : n ≤ 1000) : zPur l yJ6_dec cJ6_dec 2 (some .int) 1 [vI i, vI n] g h (some (vI (if 0 < i then i - 1 else n - 1))) := by
  refine zMet.mkF (L0 := [some (vI i), some (vI n)]) (by decide +kernel) rfl (Nat.le_of_ble_eq_true rfl) rfl (fun C hg hl hnm X => ?_)
  subst hg hl
  refine z_iinc (pc' := 3) X dJ6_dec_0 rfl (by decide) rfl rfl ?_
  dsimp only [List.set]
  refine z_iload_n (pc' := 4) X dJ6_dec_3 rfl rfl ?_
  refine z_if_ge (tgt := 11) (pc' := 7) X (by first | assumption | omega) dJ6_dec_4 rfl (by decide) (fun c4 => ?_) (fun c4 => ?_)
  · refine z_iload_n (pc' := 12) X dJ6_dec_11 rfl rfl ?_
    refine z_iret1 X dJ6_dec_12 (Nat.le_of_ble_eq_true rfl) (Nat.le_of_ble_eq_true rfl) ?_
    exact ⟨by rw [if_pos (by omega)]; rfl, rfl⟩
  · refine z_iload_n (pc' := 8) X dJ6_dec_7 rfl rfl ?_
    refine z_iconst (pc' := 9) X dJ6_dec_8 rfl ?_
    refine z_isub (pc' := 10) X dJ6_dec_9 rfl ?_
    refine z_istore_n (pc' := 11) X dJ6_dec_10 rfl (by decide) rfl ?_
    dsimp only [List.set]
    refine z_iload_n (pc' := 12) X dJ6_dec_11 rfl rfl ?_
    refine z_iret1 X dJ6_dec_12 (Nat.le_of_ble_eq_true rfl) (Nat.le_of_ble_eq_true rfl) ?_
    exact ⟨by rw [if_neg (by omega)], rfl⟩
theorem Y_J6_sub : zYS yJ6_sub cJ6_sub 3 (some .int) 3 := ⟨⟨q1471, q127, q1472⟩, by decide +kernel, by decide⟩
set_option maxRecDepth 100000 in
theorem c_J6_sub (l : Launch) (g : zG) (h : GH) (i j n : Int) (hi : 0 ≤ i ∧ i < n) (hj : 0 ≤ j ∧ j < n) (hn : n ≤ 1000) : zPur l yJ6_sub cJ6_sub 3 (some .int) 1 [vI i, vI j, vI n] g h (some (vI (if j ≤ i then i - j else i - j + n))) := by
  refine zMet.mkF (L0 := [some (vI i), some (vI j), some (vI n)]) (by decide +kernel) rfl (Nat.le_of_ble_eq_true rfl) rfl (fun C hg hl hnm X => ?_)
  subst hg hl
  refine z_iload_n (pc' := 1) X dJ6_sub_0 rfl rfl ?_
  refine z_iload_n (pc' := 2) X dJ6_sub_1 rfl rfl ?_
  refine z_isub (pc' := 3) X dJ6_sub_2 rfl ?_
  refine z_dup (pc' := 4) X rfl dJ6_sub_3 rfl ?_
  refine z_istore_n (pc' := 5) X dJ6_sub_4 rfl (by decide) rfl ?_
  dsimp only [List.set]
  refine z_if_ge (tgt := 12) (pc' := 8) X (by first | assumption | omega) dJ6_sub_5 rfl (by decide) (fun c5 => ?_) (fun c5 => ?_)
  · refine z_iload_n (pc' := 13) X dJ6_sub_12 rfl rfl ?_
    refine z_iret1 X dJ6_sub_13 (Nat.le_of_ble_eq_true rfl) (Nat.le_of_ble_eq_true rfl) ?_
    exact ⟨by rw [if_pos (by omega)], rfl⟩
  · refine z_iload_n (pc' := 9) X dJ6_sub_8 rfl rfl ?_
    refine z_iload_n (pc' := 10) X dJ6_sub_9 rfl rfl ?_
    refine z_iadd (pc' := 11) X dJ6_sub_10 rfl ?_
    refine z_istore_n (pc' := 12) X dJ6_sub_11 rfl (by decide) rfl ?_
    dsimp only [List.set]
    refine z_iload_n (pc' := 13) X dJ6_sub_12 rfl rfl ?_
    refine z_iret1 X dJ6_sub_13 (Nat.le_of_ble_eq_true rfl) (Nat.le_of_ble_eq_true rfl) ?_
    exact ⟨by rw [if_neg (by omega)], rfl⟩
theorem Y_J6_size : zYV yJ6_size cJ6_size 1 (some .int) 0 := ⟨⟨q1467, q1468, q127, q1469⟩, by decide +kernel, by decide⟩
set_option maxRecDepth 100000 in
theorem c_J6_size (l : Launch) (g : zG) (h : GH) (dq ea : Nat) (xs : List Nat) (hR : dqR h dq ea xs) : zPur l yJ6_size cJ6_size 1 (some .int) 2 [vR dq] g h (some (vI (xs.length : Int))) := by
  refine zMet.mkF (L0 := [some (vR dq)]) (by decide +kernel) rfl (Nat.le_of_ble_eq_true rfl) rfl (fun C hg hl hnm X => ?_)
  subst hg hl
  obtain ⟨hd, fe, u1, u2, u3, u4, u5⟩ := hR
  have hpb := dqP_b (k := (xs.length : Int)) u3 (by omega)
  refine z_aload_n (pc' := 1) X dJ6_size_0 rfl rfl ?_
  refine z_get1 (pc' := 4) (kf := 2) X in_J6 rfl (by decide) q444 (Or.inl rfl) u1 rfl dJ6_size_1 rfl ?_
  refine z_aload_n (pc' := 5) X dJ6_size_4 rfl rfl ?_
  refine z_get1 (pc' := 8) (kf := 1) X in_J6 rfl (by decide) q443 (Or.inl rfl) u1 rfl dJ6_size_5 rfl ?_
  refine z_aload_n (pc' := 9) X dJ6_size_8 rfl rfl ?_
  refine z_get1 (pc' := 12) (kf := 0) X in_J6 rfl (by decide) q442 (Or.inl rfl) u1 rfl dJ6_size_9 rfl ?_
  refine z_alen1 (pc' := 13) X (t0 := 4) (fun _ => rfl) u2 dJ6_size_12 rfl ?_
  refine z_callS0 (pc' := 16) X Y_J6_sub q1470 dJ6_size_13 rfl (Nat.le_of_ble_eq_true rfl) (Nat.le_of_ble_eq_true rfl) (Nat.le_of_ble_eq_true rfl) rfl rfl (Nat.le_of_ble_eq_true rfl) (c_J6_sub _ _ _ ((dqP hd (xs.length : Int))) (hd) ((17 : Int)) (by first | assumption | omega) (by first | assumption | omega) (by first | assumption | omega)) ?_
  dsimp only [zst]
  refine z_iret1 X dJ6_size_16 (Nat.le_of_ble_eq_true rfl) (Nat.le_of_ble_eq_true rfl) ?_
  refine ⟨?_, rfl⟩
  congr 2
  unfold dqP
  split <;> split <;> omega
theorem Y_J6_isEmpty : zYV yJ6_isEmpty cJ6_isEmpty 1 (some .boolean) 0 := ⟨⟨q2035, q2036, q127, q2037⟩, by decide +kernel, by decide⟩
set_option maxRecDepth 100000 in
theorem c_J6_isEmpty (l : Launch) (g : zG) (h : GH) (dq ea : Nat) (xs : List Nat) (hR : dqR h dq ea xs) : zPur l yJ6_isEmpty cJ6_isEmpty 1 (some .boolean) 1 [vR dq] g h (some (vI (bI (xs.length = 0)))) := by
  refine zMet.mkF (L0 := [some (vR dq)]) (by decide +kernel) rfl (Nat.le_of_ble_eq_true rfl) rfl (fun C hg hl hnm X => ?_)
  subst hg hl
  obtain ⟨hd, fe, u1, u2, u3, u4, u5⟩ := hR
  have hpb := dqP_b (k := (xs.length : Int)) u3 (by omega)
  refine z_aload_n (pc' := 1) X dJ6_isEmpty_0 rfl rfl ?_
  refine z_get1 (pc' := 4) (kf := 1) X in_J6 rfl (by decide) q443 (Or.inl rfl) u1 rfl dJ6_isEmpty_1 rfl ?_
  refine z_aload_n (pc' := 5) X dJ6_isEmpty_4 rfl rfl ?_
  refine z_get1 (pc' := 8) (kf := 2) X in_J6 rfl (by decide) q444 (Or.inl rfl) u1 rfl dJ6_isEmpty_5 rfl ?_
  refine z_icmp_ne (tgt := 15) (pc' := 11) X (by first | assumption | omega) (by first | assumption | omega) dJ6_isEmpty_8 rfl (by decide) (fun c8 => ?_) (fun c8 => ?_)
  · refine z_iconst (pc' := 16) X dJ6_isEmpty_15 rfl ?_
    refine z_zret1 X dJ6_isEmpty_16 (by first | exact nar_0 | exact nar_1 | exact nar_bI _ | exact nar_b (by omega)) (Nat.le_of_ble_eq_true rfl) (Nat.le_of_ble_eq_true rfl) ?_
    refine ⟨?_, rfl⟩
    rw [bI_f (fun hh => c8 (by unfold dqP; rw [hh]; split <;> omega))]
  · refine z_iconst (pc' := 12) X dJ6_isEmpty_11 rfl ?_
    refine z_goto (tgt := 16) X dJ6_isEmpty_12 (by decide) ?_
    refine z_zret1 X dJ6_isEmpty_16 (by first | exact nar_0 | exact nar_1 | exact nar_bI _ | exact nar_b (by omega)) (Nat.le_of_ble_eq_true rfl) (Nat.le_of_ble_eq_true rfl) ?_
    refine ⟨?_, rfl⟩
    rw [bI_t (by unfold dqP at c8; split at c8 <;> omega)]
theorem Y_J6_elementAt : zYS yJ6_elementAt cJ6_elementAt 2 (some (.object "java/lang/Object")) 2 := ⟨⟨q1482, q127, q1483⟩, by decide +kernel, by decide⟩
set_option maxRecDepth 100000 in
theorem c_J6_elementAt (l : Launch) (g : zG) (h : GH) (ea q : Nat) (i : Int) (fe : Nat → Option Nat) (u2 : h ea = some (zAq 14 17 fe)) (hi : 0 ≤ i ∧ i < 17) (hq : fe i.toNat = some q) : zPur l yJ6_elementAt cJ6_elementAt 2 (some (.object "java/lang/Object")) 1 [vR ea, vI i] g h (some (vR q)) := by
  refine zMet.mkF (L0 := [some (vR ea), some (vI i)]) (by decide +kernel) rfl (Nat.le_of_ble_eq_true rfl) rfl (fun C hg hl hnm X => ?_)
  subst hg hl
  refine z_aload_n (pc' := 1) X dJ6_elementAt_0 rfl rfl ?_
  refine z_iload_n (pc' := 2) X dJ6_elementAt_1 rfl rfl ?_
  refine z_aald1 (pc' := 3) X (t0 := 4) (fun _ => rfl) u2 (by first | assumption | omega) (by omega) dJ6_elementAt_2 rfl ?_
  rw [hq]
  refine z_aret1 X (Or.inl ⟨_, rfl⟩) dJ6_elementAt_3 (Nat.le_of_ble_eq_true rfl) (Nat.le_of_ble_eq_true rfl) ?_
  exact ⟨rfl, rfl⟩
theorem Y_J6_addLast : zYV yJ6_addLast cJ6_addLast 3 none 1 := ⟨⟨q1488, q1489, q127, q1490⟩, by decide +kernel, by decide⟩
set_option maxRecDepth 100000 in
theorem c_J6_addLast (l : Launch) (g : zG) (h : GH) (dq ea : Nat) (xs : List Nat) (hR : dqR h dq ea xs) (q : Nat) (fs : List Value) (hl : xs.length ≤ 5) (hq1 : h q = some (zO 1 fs)) : zMet l yJ6_addLast cJ6_addLast 3 none 2 0 0 [vR dq, vR q] g h (fun v h' => v = none ∧ dqR h' dq ea (xs ++ [q]) ∧ hF h (fun x => x = dq ∨ x = ea) h') := by
  refine zMet.mkF (L0 := [some (vR dq), some (vR q), none]) (by decide +kernel) rfl (Nat.le_of_ble_eq_true rfl) rfl (fun C hg hl hnm X => ?_)
  subst hg hl
  obtain ⟨hd, fe, u1, u2, u3, u4, u5⟩ := hR
  have hpb := dqP_b (k := (xs.length : Int)) u3 (by omega)
  refine z_aload_n (pc' := 1) X dJ6_addLast_0 rfl rfl ?_
  refine z_ifnonnull_T (tgt := 12) X dJ6_addLast_1 (by decide) ?_
  refine z_aload_n (pc' := 13) X dJ6_addLast_12 rfl rfl ?_
  refine z_get1 (pc' := 16) (kf := 0) X in_J6 rfl (by decide) q442 (Or.inl rfl) u1 rfl dJ6_addLast_13 rfl ?_
  refine z_astore_n (pc' := 17) X dJ6_addLast_16 rfl (by decide) rfl ?_
  dsimp only [List.set]
  refine z_aload_n (pc' := 18) X dJ6_addLast_17 rfl rfl ?_
  refine z_aload_n (pc' := 19) X dJ6_addLast_18 rfl rfl ?_
  refine z_get1 (pc' := 22) (kf := 2) X in_J6 rfl (by decide) q444 (Or.inl rfl) u1 rfl dJ6_addLast_19 rfl ?_
  refine z_aload_n (pc' := 23) X dJ6_addLast_22 rfl rfl ?_
  refine z_aastO1 (pc' := 24) X (t0 := 4) (ci := 1) (fun _ => rfl) rfl q2698 u2 ⟨_, hq1⟩ (by first | assumption | omega) (by omega) dJ6_addLast_23 rfl (fun h1 e1 => ?_)
  have g1 := (congrFun e1 ea).trans hset_s
  have fa2 := (congrFun e1 _).trans (hset_oa u1 u2)
  have fa3 := (congrFun e1 _).trans (hset_oa hq1 u2)
  have w1 : hF h (fun x => x = dq ∨ x = ea) h1 := by rw [e1]; exact hF.rf.set (Or.inl (Or.inr rfl))
  refine z_aload_n (pc' := 25) X dJ6_addLast_24 rfl rfl ?_
  refine z_get1 (pc' := 28) (kf := 1) X in_J6 rfl (by decide) q443 (Or.inl rfl) fa2 rfl dJ6_addLast_25 rfl ?_
  refine z_aload_n (pc' := 29) X dJ6_addLast_28 rfl rfl ?_
  refine z_aload_n (pc' := 30) X dJ6_addLast_29 rfl rfl ?_
  refine z_get1 (pc' := 33) (kf := 2) X in_J6 rfl (by decide) q444 (Or.inl rfl) fa2 rfl dJ6_addLast_30 rfl ?_
  refine z_aload_n (pc' := 34) X dJ6_addLast_33 rfl rfl ?_
  refine z_alen1 (pc' := 35) X (t0 := 4) (fun _ => rfl) g1 dJ6_addLast_34 rfl ?_
  refine z_callS0 (pc' := 38) X Y_J6_inc q1484 dJ6_addLast_35 rfl (Nat.le_of_ble_eq_true rfl) (Nat.le_of_ble_eq_true rfl) (Nat.le_of_ble_eq_true rfl) rfl rfl (Nat.le_of_ble_eq_true rfl) (c_J6_inc _ _ _ ((dqP hd (xs.length : Int))) ((17 : Int)) (by first | assumption | omega) (by first | assumption | omega)) ?_
  dsimp only [zst]
  refine z_dup_x1 (pc' := 39) X rfl rfl dJ6_addLast_38 rfl ?_
  refine z_put1 (pc' := 42) (kf := 2) X in_J6 tyJ6 tyJ6_ok nmJ6 rfl (by decide) q444 (Or.inl rfl) rfl rfl rfl (Nat.le_of_ble_eq_true rfl) fa2 dJ6_addLast_39 rfl (fun h5 e5 => ?_)
  have g5 := (congrFun e5 dq).trans hset_s
  try dsimp only [List.set] at g5
  have fa6 := (congrFun e5 _).trans (hset_ao g1 fa2)
  have fa7 := (congrFun e5 _).trans (hset_oo fa3 fa2 (by decide))
  have w5 : hF h (fun x => x = dq ∨ x = ea) h5 := by rw [e5]; exact w1.set (Or.inl (Or.inl rfl))
  refine z_icmp_ne (tgt := 50) (pc' := 45) X (by first | assumption | omega) (by first | assumption | omega) dJ6_addLast_42 rfl (by decide) (fun c42 => ?_) (fun c42 => ?_)
  · refine z_ret1 X dJ6_addLast_50 (Nat.le_of_ble_eq_true rfl) (Nat.le_of_ble_eq_true rfl) ?_
    refine ⟨rfl, ⟨hd, _, ?_, fa6, u3, by rw [List.length_append]; show xs.length + 1 ≤ 6; omega, fun k hk => ?_⟩, w5⟩
    · rw [List.length_append, show dqP hd ((xs.length + [q].length : Nat) : Int) = (if dqP hd (xs.length : Int) + 1 < 17 then dqP hd (xs.length : Int) + 1 else 0) from by show dqP hd ((xs.length + 1 : Nat) : Int) = _; unfold dqP; (repeat' split) <;> omega]
      exact g5
    · rw [List.length_append] at hk
      have hk : k < xs.length + 1 := hk
      by_cases hkk : k = xs.length
      · rw [hkk, fup_s, List.getElem?_append_right (Nat.le_refl _), Nat.sub_self]
        rfl
      · rw [fup_n, u5 k (by omega), List.getElem?_append_left (by omega)]
        intro hh
        have := dqP_b (k := (k : Int)) u3 (by omega)
        have := dqP_i (j := (k : Int)) (k := (xs.length : Int)) u3 (by omega) (by omega) (by omega)
        omega
  · exact absurd c42 (by unfold dqP; (repeat' split) <;> omega)
theorem Y_J6_pollFirst : zYV yJ6_pollFirst cJ6_pollFirst 4 (some (.object "java/lang/Object")) 0 := ⟨⟨q1478, q1479, q127, q1480⟩, by decide +kernel, by decide⟩
set_option maxRecDepth 100000 in
theorem c_J6_pollFirst (l : Launch) (g : zG) (h : GH) (dq ea : Nat) (xs : List Nat) (hR : dqR h dq ea xs) (q : Nat) (t : List Nat) (hx : xs = q :: t) : zMet l yJ6_pollFirst cJ6_pollFirst 4 (some (.object "java/lang/Object")) 2 0 0 [vR dq] g h (fun v h' => v = some (vR q) ∧ dqR h' dq ea t ∧ hF h (fun x => x = dq ∨ x = ea) h') := by
  refine zMet.mkF (L0 := [some (vR dq), none, none, none]) (by decide +kernel) rfl (Nat.le_of_ble_eq_true rfl) rfl (fun C hg hl hnm X => ?_)
  subst hg hl
  obtain ⟨hd, fe, u1, u2, u3, u4, u5⟩ := hR
  have hpb := dqP_b (k := (xs.length : Int)) u3 (by omega)
  have h0 : xs.length = t.length + 1 := by rw [hx]; rfl
  have hq : fe hd.toNat = some q := by have := u5 0 (by omega); rw [show dqP hd ((0 : Nat) : Int) = hd by unfold dqP; split <;> omega, hx] at this; exact this
  refine z_aload_n (pc' := 1) X dJ6_pollFirst_0 rfl rfl ?_
  refine z_get1 (pc' := 4) (kf := 0) X in_J6 rfl (by decide) q442 (Or.inl rfl) u1 rfl dJ6_pollFirst_1 rfl ?_
  refine z_dup (pc' := 5) X rfl dJ6_pollFirst_4 rfl ?_
  refine z_astore_n (pc' := 6) X dJ6_pollFirst_5 rfl (by decide) rfl ?_
  dsimp only [List.set]
  refine z_aload_n (pc' := 7) X dJ6_pollFirst_6 rfl rfl ?_
  refine z_get1 (pc' := 10) (kf := 1) X in_J6 rfl (by decide) q443 (Or.inl rfl) u1 rfl dJ6_pollFirst_7 rfl ?_
  refine z_dup (pc' := 11) X rfl dJ6_pollFirst_10 rfl ?_
  refine z_istore_n (pc' := 12) X dJ6_pollFirst_11 rfl (by decide) rfl ?_
  dsimp only [List.set]
  refine z_callS0 (pc' := 15) X Y_J6_elementAt q1481 dJ6_pollFirst_12 rfl (Nat.le_of_ble_eq_true rfl) (Nat.le_of_ble_eq_true rfl) (Nat.le_of_ble_eq_true rfl) rfl rfl (Nat.le_of_ble_eq_true rfl) (c_J6_elementAt _ _ _ ea q (hd) fe u2 (by first | assumption | omega) (by exact hq)) ?_
  dsimp only [zst]
  refine z_astore_n (pc' := 16) X dJ6_pollFirst_15 rfl (by decide) rfl ?_
  dsimp only [List.set]
  refine z_aload_n (pc' := 17) X dJ6_pollFirst_16 rfl rfl ?_
  refine z_ifnull_F (pc' := 20) X dJ6_pollFirst_17 rfl ?_
  refine z_aload_n (pc' := 21) X dJ6_pollFirst_20 rfl rfl ?_
  refine z_iload_n (pc' := 22) X dJ6_pollFirst_21 rfl rfl ?_
  refine z_null (pc' := 23) X dJ6_pollFirst_22 rfl ?_
  refine z_aastN1 (pc' := 24) X (t0 := 4) (fun _ => rfl) u2 (by first | assumption | omega) (by omega) dJ6_pollFirst_23 rfl (fun h2 e2 => ?_)
  have g2 := (congrFun e2 ea).trans hset_s
  have fa3 := (congrFun e2 _).trans (hset_oa u1 u2)
  have w2 : hF h (fun x => x = dq ∨ x = ea) h2 := by rw [e2]; exact hF.rf.set (Or.inl (Or.inr rfl))
  refine z_aload_n (pc' := 25) X dJ6_pollFirst_24 rfl rfl ?_
  refine z_iload_n (pc' := 26) X dJ6_pollFirst_25 rfl rfl ?_
  refine z_aload_n (pc' := 27) X dJ6_pollFirst_26 rfl rfl ?_
  refine z_alen1 (pc' := 28) X (t0 := 4) (fun _ => rfl) g2 dJ6_pollFirst_27 rfl ?_
  refine z_callS0 (pc' := 31) X Y_J6_inc q1484 dJ6_pollFirst_28 rfl (Nat.le_of_ble_eq_true rfl) (Nat.le_of_ble_eq_true rfl) (Nat.le_of_ble_eq_true rfl) rfl rfl (Nat.le_of_ble_eq_true rfl) (c_J6_inc _ _ _ (hd) ((17 : Int)) (by first | assumption | omega) (by first | assumption | omega)) ?_
  dsimp only [zst]
  refine z_put1 (pc' := 34) (kf := 1) X in_J6 tyJ6 tyJ6_ok nmJ6 rfl (by decide) q443 (Or.inl rfl) rfl rfl rfl (Nat.le_of_ble_eq_true rfl) fa3 dJ6_pollFirst_31 rfl (fun h5 e5 => ?_)
  have g5 := (congrFun e5 dq).trans hset_s
  try dsimp only [List.set] at g5
  have fa6 := (congrFun e5 _).trans (hset_ao g2 fa3)
  have w5 : hF h (fun x => x = dq ∨ x = ea) h5 := by rw [e5]; exact w2.set (Or.inl (Or.inl rfl))
  refine z_aload_n (pc' := 35) X dJ6_pollFirst_34 rfl rfl ?_
  refine z_aret1 X (Or.inl ⟨_, rfl⟩) dJ6_pollFirst_35 (Nat.le_of_ble_eq_true rfl) (Nat.le_of_ble_eq_true rfl) ?_
  refine ⟨rfl, ⟨(if hd + 1 < 17 then hd + 1 else 0), _, ?_, fa6, by split <;> omega, by omega, fun k hk => ?_⟩, w5⟩
  · rw [show dqP (if hd + 1 < 17 then hd + 1 else 0) (t.length : Int) = dqP hd (xs.length : Int) by rw [h0]; unfold dqP; (repeat' split) <;> omega]
    exact g5
  · have e6 : dqP (if hd + 1 < 17 then hd + 1 else 0) (k : Int) = dqP hd ((k + 1 : Nat) : Int) := by unfold dqP; (repeat' split) <;> omega
    rw [e6, fup_n, u5 (k + 1) (by omega), hx]
    · rfl
    · intro hh
      have := dqP_b (k := ((k + 1 : Nat) : Int)) u3 (by omega)
      have := dqP_i (j := ((k + 1 : Nat) : Int)) (k := 0) u3 (by omega) (by omega) (by rw [show dqP hd 0 = hd by unfold dqP; split <;> omega]; omega)
      omega
theorem Y_J6_removeFirst : zYV yJ6_removeFirst cJ6_removeFirst 2 (some (.object "java/lang/Object")) 0 := ⟨⟨q1474, q1475, q127, q1476⟩, by decide +kernel, by decide⟩
set_option maxRecDepth 100000 in
theorem c_J6_removeFirst (l : Launch) (g : zG) (h : GH) (dq ea : Nat) (xs : List Nat) (hR : dqR h dq ea xs) (q : Nat) (t : List Nat) (hx : xs = q :: t) : zMet l yJ6_removeFirst cJ6_removeFirst 2 (some (.object "java/lang/Object")) 3 0 0 [vR dq] g h (fun v h' => v = some (vR q) ∧ dqR h' dq ea t ∧ hF h (fun x => x = dq ∨ x = ea) h') := by
  refine zMet.mkF (L0 := [some (vR dq), none]) (by decide +kernel) rfl (Nat.le_of_ble_eq_true rfl) rfl (fun C hg hl hnm X => ?_)
  subst hg hl
  obtain ⟨hd, fe, u1, u2, u3, u4, u5⟩ := id hR
  refine z_aload_n (pc' := 1) X dJ6_removeFirst_0 rfl rfl ?_
  refine z_callV1 (pc' := 4) X Y_J6_pollFirst q1477 dJ6_removeFirst_1 rfl (Nat.le_of_ble_eq_true rfl) (Nat.le_of_ble_eq_true rfl) (Nat.le_of_ble_eq_true rfl) rfl rfl (Nat.le_of_ble_eq_true rfl) rfl ⟨_, u1⟩ (c_J6_pollFirst _ _ _ dq ea xs hR q t hx) (fun v1 h1 p1 => ?_)
  obtain ⟨ev1, p1⟩ := p1
  subst ev1
  dsimp only [zst]
  refine z_astore_n (pc' := 5) X dJ6_removeFirst_4 rfl (by decide) rfl ?_
  dsimp only [List.set]
  refine z_aload_n (pc' := 6) X dJ6_removeFirst_5 rfl rfl ?_
  refine z_ifnonnull_T (tgt := 17) X dJ6_removeFirst_6 (by decide) ?_
  refine z_aload_n (pc' := 18) X dJ6_removeFirst_17 rfl rfl ?_
  refine z_aret1 X (Or.inl ⟨_, rfl⟩) dJ6_removeFirst_18 (Nat.le_of_ble_eq_true rfl) (Nat.le_of_ble_eq_true rfl) ?_
  exact ⟨rfl, p1⟩
theorem Y_J6_pollLast : zYV yJ6_pollLast cJ6_pollLast 4 (some (.object "java/lang/Object")) 0 := ⟨⟨q2043, q2044, q127, q2045⟩, by decide +kernel, by decide⟩
set_option maxRecDepth 100000 in
theorem c_J6_pollLast (l : Launch) (g : zG) (h : GH) (dq ea : Nat) (xs : List Nat) (hR : dqR h dq ea xs) (q : Nat) (t : List Nat) (hx : xs = t ++ [q]) : zMet l yJ6_pollLast cJ6_pollLast 4 (some (.object "java/lang/Object")) 2 0 0 [vR dq] g h (fun v h' => v = some (vR q) ∧ dqR h' dq ea t ∧ hF h (fun x => x = dq ∨ x = ea) h') := by
  refine zMet.mkF (L0 := [some (vR dq), none, none, none]) (by decide +kernel) rfl (Nat.le_of_ble_eq_true rfl) rfl (fun C hg hl hnm X => ?_)
  subst hg hl
  obtain ⟨hd, fe, u1, u2, u3, u4, u5⟩ := hR
  have hpb := dqP_b (k := (xs.length : Int)) u3 (by omega)
  have h0 : xs.length = t.length + 1 := by rw [hx, List.length_append]; rfl
  have hdl : (if 0 < dqP hd (xs.length : Int) then dqP hd (xs.length : Int) - 1 else 17 - 1) = dqP hd (t.length : Int) := by rw [h0]; unfold dqP; (repeat' split) <;> omega
  have hq : fe (dqP hd (t.length : Int)).toNat = some q := by
    have := u5 t.length (by omega)
    rw [hx, List.getElem?_append_right (Nat.le_refl _), Nat.sub_self] at this
    exact this
  have hpt := dqP_b (k := (t.length : Int)) u3 (by omega)
  refine z_aload_n (pc' := 1) X dJ6_pollLast_0 rfl rfl ?_
  refine z_get1 (pc' := 4) (kf := 0) X in_J6 rfl (by decide) q442 (Or.inl rfl) u1 rfl dJ6_pollLast_1 rfl ?_
  refine z_dup (pc' := 5) X rfl dJ6_pollLast_4 rfl ?_
  refine z_astore_n (pc' := 6) X dJ6_pollLast_5 rfl (by decide) rfl ?_
  dsimp only [List.set]
  refine z_aload_n (pc' := 7) X dJ6_pollLast_6 rfl rfl ?_
  refine z_get1 (pc' := 10) (kf := 2) X in_J6 rfl (by decide) q444 (Or.inl rfl) u1 rfl dJ6_pollLast_7 rfl ?_
  refine z_aload_n (pc' := 11) X dJ6_pollLast_10 rfl rfl ?_
  refine z_alen1 (pc' := 12) X (t0 := 4) (fun _ => rfl) u2 dJ6_pollLast_11 rfl ?_
  refine z_callS0 (pc' := 15) X Y_J6_dec q2046 dJ6_pollLast_12 rfl (Nat.le_of_ble_eq_true rfl) (Nat.le_of_ble_eq_true rfl) (Nat.le_of_ble_eq_true rfl) rfl rfl (Nat.le_of_ble_eq_true rfl) (c_J6_dec _ _ _ ((dqP hd (xs.length : Int))) ((17 : Int)) (by first | assumption | omega) (by first | assumption | omega)) ?_
  dsimp only [zst]
  rw [show (if 0 < dqP hd (xs.length : Int) then dqP hd (xs.length : Int) - 1 else (17 : Int) - 1) = dqP hd (t.length : Int) from hdl]
  refine z_dup (pc' := 16) X rfl dJ6_pollLast_15 rfl ?_
  refine z_istore_n (pc' := 17) X dJ6_pollLast_16 rfl (by decide) rfl ?_
  dsimp only [List.set]
  refine z_callS0 (pc' := 20) X Y_J6_elementAt q1481 dJ6_pollLast_17 rfl (Nat.le_of_ble_eq_true rfl) (Nat.le_of_ble_eq_true rfl) (Nat.le_of_ble_eq_true rfl) rfl rfl (Nat.le_of_ble_eq_true rfl) (c_J6_elementAt _ _ _ ea q ((dqP hd (t.length : Int))) fe u2 (by first | assumption | omega) (by exact hq)) ?_
  dsimp only [zst]
  refine z_astore_n (pc' := 21) X dJ6_pollLast_20 rfl (by decide) rfl ?_
  dsimp only [List.set]
  refine z_aload_n (pc' := 22) X dJ6_pollLast_21 rfl rfl ?_
  refine z_ifnull_F (pc' := 25) X dJ6_pollLast_22 rfl ?_
  refine z_aload_n (pc' := 26) X dJ6_pollLast_25 rfl rfl ?_
  refine z_aload_n (pc' := 27) X dJ6_pollLast_26 rfl rfl ?_
  refine z_iload_n (pc' := 28) X dJ6_pollLast_27 rfl rfl ?_
  refine z_dup_x1 (pc' := 29) X rfl rfl dJ6_pollLast_28 rfl ?_
  refine z_put1 (pc' := 32) (kf := 2) X in_J6 tyJ6 tyJ6_ok nmJ6 rfl (by decide) q444 (Or.inl rfl) rfl rfl rfl (Nat.le_of_ble_eq_true rfl) u1 dJ6_pollLast_29 rfl (fun h3 e3 => ?_)
  have g3 := (congrFun e3 dq).trans hset_s
  try dsimp only [List.set] at g3
  have fa4 := (congrFun e3 _).trans (hset_ao u2 u1)
  have w3 : hF h (fun x => x = dq ∨ x = ea) h3 := by rw [e3]; exact hF.rf.set (Or.inl (Or.inl rfl))
  refine z_null (pc' := 33) X dJ6_pollLast_32 rfl ?_
  refine z_aastN1 (pc' := 34) X (t0 := 4) (fun _ => rfl) fa4 (by first | assumption | omega) (by omega) dJ6_pollLast_33 rfl (fun h5 e5 => ?_)
  have g5 := (congrFun e5 ea).trans hset_s
  have fa6 := (congrFun e5 _).trans (hset_oa g3 fa4)
  have w5 : hF h (fun x => x = dq ∨ x = ea) h5 := by rw [e5]; exact w3.set (Or.inl (Or.inr rfl))
  refine z_aload_n (pc' := 35) X dJ6_pollLast_34 rfl rfl ?_
  refine z_aret1 X (Or.inl ⟨_, rfl⟩) dJ6_pollLast_35 (Nat.le_of_ble_eq_true rfl) (Nat.le_of_ble_eq_true rfl) ?_
  refine ⟨rfl, ⟨hd, _, fa6, g5, u3, by omega, fun k hk => ?_⟩, w5⟩
  rw [fup_n, u5 k (by omega), hx, List.getElem?_append_left hk]
  intro hh
  have := dqP_b (k := (k : Int)) u3 (by omega)
  have := dqP_b (k := (t.length : Int)) u3 (by omega)
  have := dqP_i (j := (k : Int)) (k := (t.length : Int)) u3 (by omega) (by omega) (by omega)
  omega
theorem Y_J6_removeLast : zYV yJ6_removeLast cJ6_removeLast 2 (some (.object "java/lang/Object")) 0 := ⟨⟨q2039, q2040, q127, q2041⟩, by decide +kernel, by decide⟩
set_option maxRecDepth 100000 in
theorem c_J6_removeLast (l : Launch) (g : zG) (h : GH) (dq ea : Nat) (xs : List Nat) (hR : dqR h dq ea xs) (q : Nat) (t : List Nat) (hx : xs = t ++ [q]) : zMet l yJ6_removeLast cJ6_removeLast 2 (some (.object "java/lang/Object")) 3 0 0 [vR dq] g h (fun v h' => v = some (vR q) ∧ dqR h' dq ea t ∧ hF h (fun x => x = dq ∨ x = ea) h') := by
  refine zMet.mkF (L0 := [some (vR dq), none]) (by decide +kernel) rfl (Nat.le_of_ble_eq_true rfl) rfl (fun C hg hl hnm X => ?_)
  subst hg hl
  obtain ⟨hd, fe, u1, u2, u3, u4, u5⟩ := id hR
  refine z_aload_n (pc' := 1) X dJ6_removeLast_0 rfl rfl ?_
  refine z_callV1 (pc' := 4) X Y_J6_pollLast q2042 dJ6_removeLast_1 rfl (Nat.le_of_ble_eq_true rfl) (Nat.le_of_ble_eq_true rfl) (Nat.le_of_ble_eq_true rfl) rfl rfl (Nat.le_of_ble_eq_true rfl) rfl ⟨_, u1⟩ (c_J6_pollLast _ _ _ dq ea xs hR q t hx) (fun v1 h1 p1 => ?_)
  obtain ⟨ev1, p1⟩ := p1
  subst ev1
  dsimp only [zst]
  refine z_astore_n (pc' := 5) X dJ6_removeLast_4 rfl (by decide) rfl ?_
  dsimp only [List.set]
  refine z_aload_n (pc' := 6) X dJ6_removeLast_5 rfl rfl ?_
  refine z_ifnonnull_T (tgt := 17) X dJ6_removeLast_6 (by decide) ?_
  refine z_aload_n (pc' := 18) X dJ6_removeLast_17 rfl rfl ?_
  refine z_aret1 X (Or.inl ⟨_, rfl⟩) dJ6_removeLast_18 (Nat.le_of_ble_eq_true rfl) (Nat.le_of_ble_eq_true rfl) ?_
  exact ⟨rfl, p1⟩
set_option maxRecDepth 100000 in
theorem c_J0_init_d (l : Launch) (g : zG) (h : GH) (a : Nat) (fs : List Value) (hq : h a = some (zO 14 fs)) : zPur l yJ0_init cJ0_init 1 none 1 [vR a] g h (none) := by
  refine zMet.mkF (L0 := [some (vR a)]) (by decide +kernel) rfl (Nat.le_of_ble_eq_true rfl) rfl (fun C hg hl hnm X => ?_)
  subst hg hl
  refine z_aload_n (pc' := 1) X dJ0_init_0 rfl rfl ?_
  refine z_objInit (pc' := 4) X q197 dJ0_init_1 rfl (Nat.le_of_ble_eq_true rfl) ?_
  refine z_ret1 X dJ0_init_4 (Nat.le_of_ble_eq_true rfl) (Nat.le_of_ble_eq_true rfl) ?_
  exact ⟨rfl, rfl⟩
theorem Y_J6_init : zYI yJ6_init cJ6_init 1 0 := ⟨⟨q438, q127, q439⟩, by decide +kernel, by decide, rfl⟩
set_option maxRecDepth 100000 in
theorem c_J6_init (l : Launch) (g : zG) (h : GH) (dq : Nat) (hq : h dq = some (zO 14 [.null, vI 0, vI 0])) : zMet l yJ6_init cJ6_init 1 none 2 1 17 [vR dq] g h (fun v h' => v = none ∧ ∃ ea, h ea = none ∧ dqR h' dq ea [] ∧ hF h (fun x => x = dq) h') := by
  refine zMet.mkF (L0 := [some (vR dq)]) (by decide +kernel) rfl (Nat.le_of_ble_eq_true rfl) rfl (fun C hg hl hnm X => ?_)
  subst hg hl
  refine z_aload_n (pc' := 1) X dJ6_init_0 rfl rfl ?_
  refine z_callI0 (pc' := 4) X Y_J0_init q440 dJ6_init_1 rfl (Nat.le_of_ble_eq_true rfl) (Nat.le_of_ble_eq_true rfl) (Nat.le_of_ble_eq_true rfl) rfl rfl (Nat.le_of_ble_eq_true rfl) (c_J0_init_d _ _ _ (dq) _ hq) ?_
  dsimp only [zst]
  refine z_aload_n (pc' := 5) X dJ6_init_4 rfl rfl ?_
  refine z_bipush (pc' := 7) X dJ6_init_5 rfl (by decide) ?_
  refine z_newq1 (pc' := 10) X (N := 17) (t := 14) (t0 := 4) (fun _ => rfl) q370 q441 (by first | decide | omega) dJ6_init_7 rfl (Nat.le_of_ble_eq_true rfl) (Nat.le_of_ble_eq_true rfl) (fun q2 h2 n2 e2 => ?_)
  have g2 := (congrFun e2 q2).trans hset_s
  have fa3 := (congrFun e2 _).trans (hset_f hq n2)
  have w2 : hF h (fun x => x = dq) h2 := by rw [e2]; exact hF.rf.new n2
  refine z_put1 (pc' := 13) (kf := 0) X in_J6 tyJ6 tyJ6_ok nmJ6 rfl (by decide) q442 (Or.inl rfl) rfl rfl rfl (Nat.le_of_ble_eq_true rfl) fa3 dJ6_init_10 rfl (fun h4 e4 => ?_)
  have g4 := (congrFun e4 dq).trans hset_s
  try dsimp only [List.set] at g4
  have fa5 := (congrFun e4 _).trans (hset_ao g2 fa3)
  have w4 : hF h (fun x => x = dq) h4 := by rw [e4]; exact w2.set (Or.inl rfl)
  refine z_ret1 X dJ6_init_13 (Nat.le_of_ble_eq_true rfl) (Nat.le_of_ble_eq_true rfl) ?_
  exact ⟨rfl, q2, n2, ⟨0, _, g4, fa5, by decide, by decide, fun k hk => absurd hk (Nat.not_lt_zero _)⟩, w4⟩
end ZDEQ

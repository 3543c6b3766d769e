/-! THE MODEL: undo, snapshots, units, moving a bale -/
section M15
theorem Y_X8_lostIn : zYV yX8_lostIn cX8_lostIn 3 (some .int) 1 := ⟨⟨q2587, q2588, q132, q2589⟩, by decide +kernel, by decide⟩
set_option maxRecDepth 100000 in
theorem c_X8_lostIn (l : Launch) (g : zG) (ma : Nat → Nat) (M : MM) (n : Int) (A : Ab) (P Q : Int) (hn : rng n) (hA : mRep M A) (hk : okA P Q A) (hP : P ≤ 900000) (hQ : Q ≤ 9000000) : mInt l yX8_lostIn cX8_lostIn 3 (some .int) 7 [vR (ma 0), vI n] g ma M (fun r M' => outP (gIn 1 60 n) A (nLostN n.toNat A.1) A r M') := by
  refine mInt.mk (L0 := [some (vR (ma 0)), some (vI n), none]) (by decide) rfl (Nat.le_of_ble_eq_true rfl) rfl (fun C h hg hl hR X => ?_)
  subst hg hl
  obtain ⟨hS, hN, hH, hT⟩ := id hA
  obtain ⟨hkS, -, -, -⟩ := id hk
  obtain ⟨⟨kc1, -, kc3, kc4, kc5⟩, kb, kp, kq⟩ := id hkS
  have hI := hk.I hA hP hQ
  have hn := mI_n hI
  have hh0 : 0 ≤ M 0 0 ∧ M 0 0 ≤ 5 := ⟨by rw [hH.1]; omega, by rw [hH.1]; have := hH.2.1; omega⟩
  have s0 := sc_at hA (j := 0) (by unfold scI; omega)
  have s1 := sc_at hA (j := 1) (by unfold scI; omega)
  have hA0 : mRep (mset M 0 3 0) A := hA.num (by decide)
  have hS0 := hA0.1
  have hI0 : mI (mset M 0 3 0) := hk.I hA0 hP hQ
  have q4 := hS.2.1.1
  have q5 := hS.2.2.1.1
  have q6 := hS.2.2.2.1
  have p4 := hS0.2.1.1
  have p5 := hS0.2.2.1.1
  have p6 := hS0.2.2.2.1
  refine z_aload_n (pc' := 1) X dX8_lostIn_0 rfl rfl ?_
  refine z_iload_n (pc' := 2) X dX8_lostIn_1 rfl rfl ?_
  refine z_iconst (pc' := 3) X dX8_lostIn_2 rfl ?_
  refine z_bipush (pc' := 5) X dX8_lostIn_3 rfl (by decide) ?_
  refine z_S_fun3 (pc' := 8) X Y_X8_in q2123 dX8_lostIn_5 rfl (by decide) (Nat.le_refl _) (Nat.le_refl _) (Nat.le_of_ble_eq_true rfl) (fun h _ => c_X8_in _ _ _ _ _ _ (by first | assumption | omega) (by first | assumption | omega) (by first | assumption | omega)) (fun r5 hr5 hp5 => ?_)
  refine z_if_eq (tgt := 15) (pc' := 11) X (by first | assumption | omega) dX8_lostIn_8 rfl (by decide) (fun c8 => ?_) (fun c8 => ?_)
  · refine z_iconst (pc' := 16) X dX8_lostIn_15 rfl ?_
    refine z_mput (pc' := 19) X 10 3 rfl (by decide) q2073 rfl rfl rfl (by first | assumption | omega) dX8_lostIn_16 rfl (fun hR16 => ?_)
    refine z_aload_n (pc' := 20) X dX8_lostIn_19 rfl rfl ?_
    have hv20 := hR16 0 3
    refine z_mget (pc' := 23) X 10 rfl (by decide) q2073 rfl dX8_lostIn_20 rfl ?_
    rw [mset_s]
    rw [mset_s] at hv20
    refine z_if_le (tgt := 28) (pc' := 26) X (by first | assumption | omega) dX8_lostIn_23 rfl (by decide) (fun c23 => ?_) (fun c23 => ?_)
    · exact absurd c23 (by decide)
    · refine z_iconst (pc' := 27) X dX8_lostIn_26 rfl ?_
      refine z_ireturn X dX8_lostIn_27 (Nat.le_refl _) (Nat.le_refl _) (fun _ hh => ⟨_, hh, _, rfl, ?_, ?_⟩)
      · first | assumption | omega
      · exact ⟨by rw [mset_s]; unfold gIn; (repeat' split) <;> omega, Or.inl ⟨by unfold gIn; (repeat' split) <;> omega, hA.num (by decide)⟩⟩
  · refine z_iconst (pc' := 12) X dX8_lostIn_11 rfl ?_
    refine z_goto (tgt := 16) X dX8_lostIn_12 (by decide) ?_
    refine z_mput (pc' := 19) X 10 3 rfl (by decide) q2073 rfl rfl rfl (by first | assumption | omega) dX8_lostIn_16 rfl (fun hR16 => ?_)
    refine z_aload_n (pc' := 20) X dX8_lostIn_19 rfl rfl ?_
    have hv20 := hR16 0 3
    refine z_mget (pc' := 23) X 10 rfl (by decide) q2073 rfl dX8_lostIn_20 rfl ?_
    rw [mset_s]
    rw [mset_s] at hv20
    refine z_if_le (tgt := 28) (pc' := 26) X (by first | assumption | omega) dX8_lostIn_23 rfl (by decide) (fun c23 => ?_) (fun c23 => ?_)
    · refine z_aload_n (pc' := 29) X dX8_lostIn_28 rfl rfl ?_
      refine z_mget (pc' := 32) X 0 rfl (by decide) q2063 rfl dX8_lostIn_29 rfl ?_
      refine z_iconst (pc' := 33) X dX8_lostIn_32 rfl ?_
      refine z_aload_n (pc' := 34) X dX8_lostIn_33 rfl rfl ?_
      refine z_mget (pc' := 37) X 5 rfl (by decide) q2068 rfl dX8_lostIn_34 rfl ?_
      refine z_iconst (pc' := 38) X dX8_lostIn_37 rfl ?_
      refine z_S_void4 (pc' := 41) X Y_X8_lays q2155 dX8_lostIn_38 rfl (by decide) (Nat.le_refl _) (Nat.le_refl _) (Nat.le_of_ble_eq_true rfl) (c_X8_lays _ _ _ _ 0 0 1 4 (by decide) (by decide) (by decide) (by decide) (by decide)) (fun M38 hp38 hR38 => ?_)
      subst hp38
      have z1 : mcopy (mset M 0 3 0) 1 0 4 0 321 1 = mset M 0 3 0 1 := copy_n (by decide)
      refine z_aload_n (pc' := 42) X dX8_lostIn_41 rfl rfl ?_
      refine z_iload_n (pc' := 43) X dX8_lostIn_42 rfl rfl ?_
      refine z_V_int1 (pc' := 46) X rfl Y_X8_passes q2374 dX8_lostIn_43 rfl (by decide) (Nat.le_refl _) (Nat.le_refl _) (Nat.le_of_ble_eq_true rfl) (c_X8_passes _ _ _ _ n A.1 999 P Q (by rw [copy_n (by decide)]; exact hS0) hkS (by omega) (by omega) (by omega)) (fun r43 M43 hr43 hp43 hR43 => ?_)
      obtain ⟨p1, p2, h0, hr⟩ := hp43
      subst p1
      refine z_istore_n (pc' := 47) X dX8_lostIn_46 rfl (by decide) rfl ?_
      dsimp only [List.set]
      refine z_aload_n (pc' := 48) X dX8_lostIn_47 rfl rfl ?_
      refine z_mget (pc' := 51) X 5 rfl (by decide) q2068 rfl dX8_lostIn_48 rfl ?_
      refine z_iconst (pc' := 52) X dX8_lostIn_51 rfl ?_
      refine z_aload_n (pc' := 53) X dX8_lostIn_52 rfl rfl ?_
      refine z_mget (pc' := 56) X 0 rfl (by decide) q2063 rfl dX8_lostIn_53 rfl ?_
      refine z_iconst (pc' := 57) X dX8_lostIn_56 rfl ?_
      refine z_S_void4 (pc' := 60) X Y_X8_lays q2155 dX8_lostIn_57 rfl (by decide) (Nat.le_refl _) (Nat.le_refl _) (Nat.le_of_ble_eq_true rfl) (c_X8_lays _ _ _ _ 0 0 4 1 (by decide) (by decide) (by decide) (by decide) (by decide)) (fun M57 hp57 hR57 => ?_)
      subst hp57
      have ea : mcopy M43 4 0 1 0 321 0 = M43 0 := copy_n (by decide)
      have hAe : mRep (mcopy M43 4 0 1 0 321) A := by
        refine hA0.gen (S' := A.1) (copy_1 (M := M43) (r1 := 4) (a := 0) (hS0.congr (fun j x y => ?_))) ?_ ?_ ?_ ?_
        · show M43 4 (0 + j) = _
          rw [hr 4 (by decide) (by decide) (by decide), Int.zero_add]
          unfold mcopy
          rw [if_pos ⟨rfl, by omega, by omega⟩, show 0 + (j - 0) = j by omega]
        · rw [ea, h0 0 (by decide), h0 1 (by decide), h0 2 (by decide), copy_n (by decide)]; exact ⟨rfl, rfl, rfl⟩
        · rw [copy_n (by decide), hr 2 (by decide) (by decide) (by decide), copy_n (by decide)]
        · rw [copy_n (by decide), hr 3 (by decide) (by decide) (by decide), copy_n (by decide)]
        · rw [copy_n (by decide), hr 7 (by decide) (by decide) (by decide), copy_n (by decide)]
      have ea3 : mcopy M43 4 0 1 0 321 0 3 = 0 := by rw [ea, h0 3 (by decide), copy_n (by decide), mset_s]
      refine z_iload_n (pc' := 61) X dX8_lostIn_60 rfl rfl ?_
      refine z_ireturn X dX8_lostIn_61 (Nat.le_refl _) (Nat.le_refl _) (fun _ hh => ⟨_, hh, _, rfl, ?_, ?_⟩)
      · first | assumption | omega
      · have hg0 : gIn 1 60 n = 0 := by unfold gIn; (repeat' split) <;> omega
        rw [hg0]
        exact ⟨ea3, Or.inr ⟨rfl, rfl, hAe⟩⟩
    · exact absurd c23 (by decide)
theorem Y_X8_undo : zYV yX8_undo cX8_undo 1 (some .int) 0 := ⟨⟨q2666, q2667, q132, q2668⟩, by decide +kernel, by decide⟩
set_option maxRecDepth 100000 in
theorem c_X8_undo (l : Launch) (g : zG) (ma : Nat → Nat) (M : MM) (A : Ab) (P Q : Int) (hA : mRep M A) (hk : okA P Q A) (hP : P ≤ 900000) (hQ : Q ≤ 9000000) : mInt l yX8_undo cX8_undo 1 (some .int) 7 [vR (ma 0)] g ma M (fun r M' => outP (gUnd A) A ((A.2.2.1.length : Int) - 1) (undS A) r M') := by
  refine mInt.mk (L0 := [some (vR (ma 0))]) (by decide) rfl (Nat.le_of_ble_eq_true rfl) rfl (fun C h hg hl hR X => ?_)
  subst hg hl
  obtain ⟨hS, hN, hH, hT⟩ := id hA
  obtain ⟨hkS, -, -, -⟩ := id hk
  obtain ⟨⟨kc1, -, kc3, kc4, kc5⟩, kb, kp, kq⟩ := id hkS
  have hI := hk.I hA hP hQ
  have hn := mI_n hI
  have hh0 : 0 ≤ M 0 0 ∧ M 0 0 ≤ 5 := ⟨by rw [hH.1]; omega, by rw [hH.1]; have := hH.2.1; omega⟩
  have s0 := sc_at hA (j := 0) (by unfold scI; omega)
  have s1 := sc_at hA (j := 1) (by unfold scI; omega)
  have hA0 : mRep (mset M 0 3 0) A := hA.num (by decide)
  have hS0 := hA0.1
  have hI0 : mI (mset M 0 3 0) := hk.I hA0 hP hQ
  have q4 := hS.2.1.1
  have q5 := hS.2.2.1.1
  have q6 := hS.2.2.2.1
  have p4 := hS0.2.1.1
  have p5 := hS0.2.2.1.1
  have p6 := hS0.2.2.2.1
  have e00 := hH.1
  refine z_aload_n (pc' := 1) X dX8_undo_0 rfl rfl ?_
  refine z_aload_n (pc' := 2) X dX8_undo_1 rfl rfl ?_
  have hv2 := hR 0 0
  refine z_mget (pc' := 5) X 2 rfl (by decide) q2065 rfl dX8_undo_2 rfl ?_
  refine z_if_ne (tgt := 12) (pc' := 8) X (by first | assumption | omega) dX8_undo_5 rfl (by decide) (fun c5 => ?_) (fun c5 => ?_)
  · refine z_iconst (pc' := 13) X dX8_undo_12 rfl ?_
    refine z_mput (pc' := 16) X 10 3 rfl (by decide) q2073 rfl rfl rfl (by first | assumption | omega) dX8_undo_13 rfl (fun hR13 => ?_)
    refine z_aload_n (pc' := 17) X dX8_undo_16 rfl rfl ?_
    have hv17 := hR13 0 3
    refine z_mget (pc' := 20) X 10 rfl (by decide) q2073 rfl dX8_undo_17 rfl ?_
    rw [mset_s]
    rw [mset_s] at hv17
    refine z_if_le (tgt := 25) (pc' := 23) X (by first | assumption | omega) dX8_undo_20 rfl (by decide) (fun c20 => ?_) (fun c20 => ?_)
    · refine z_aload_n (pc' := 26) X dX8_undo_25 rfl rfl ?_
      refine z_dup (pc' := 27) X rfl dX8_undo_26 rfl ?_
      have hv27 := hR13 0 0
      refine z_mget (pc' := 30) X 2 rfl (by decide) q2065 rfl dX8_undo_27 rfl ?_
      rw [mset_k (by decide)]
      rw [mset_k (by decide)] at hv27
      refine z_iconst (pc' := 31) X dX8_undo_30 rfl ?_
      refine z_isub (pc' := 32) X dX8_undo_31 rfl ?_
      refine z_mput (pc' := 35) X 2 0 rfl (by decide) q2065 rfl rfl rfl (by first | assumption | omega) dX8_undo_32 rfl (fun hR32 => ?_)
      refine z_aload_n (pc' := 36) X dX8_undo_35 rfl rfl ?_
      refine z_mget (pc' := 39) X 1 rfl (by decide) q2064 rfl dX8_undo_36 rfl ?_
      refine z_sipush (pc' := 42) X dX8_undo_39 rfl (by decide) ?_
      refine z_aload_n (pc' := 43) X dX8_undo_42 rfl rfl ?_
      have hv43 := hR32 0 0
      refine z_mget (pc' := 46) X 2 rfl (by decide) q2065 rfl dX8_undo_43 rfl ?_
      rw [mset_s]
      rw [mset_s] at hv43
      refine z_imul (pc' := 47) X dX8_undo_46 rfl ?_
      refine z_aload_n (pc' := 48) X dX8_undo_47 rfl rfl ?_
      refine z_mget (pc' := 51) X 0 rfl (by decide) q2063 rfl dX8_undo_48 rfl ?_
      refine z_iconst (pc' := 52) X dX8_undo_51 rfl ?_
      refine z_S_void4 (pc' := 55) X Y_X8_lays q2155 dX8_undo_52 rfl (by decide) (Nat.le_refl _) (Nat.le_refl _) (Nat.le_of_ble_eq_true rfl) (c_X8_lays _ _ _ _ (321 * (M 0 0 - 1)) 0 2 1 (by decide) (by decide) (by decide) ⟨by omega, by show _ ≤ (1605 : Int); omega⟩ (by decide)) (fun M52 hp52 hR52 => ?_)
      subst hp52
      refine z_aload_n (pc' := 56) X dX8_undo_55 rfl rfl ?_
      have hv56 := hR52 0 0
      refine z_mget (pc' := 59) X 2 rfl (by decide) q2065 rfl dX8_undo_56 rfl ?_
      rw [copy_n (by decide), mset_s]
      rw [copy_n (by decide), mset_s] at hv56
      refine z_ireturn X dX8_undo_59 (Nat.le_refl _) (Nat.le_refl _) (fun _ hh => ⟨_, hh, _, rfl, ?_, ?_⟩)
      · first | assumption | omega
      · have hg0 : gUnd A = 0 := by unfold gUnd; rw [if_neg (by omega)]
        rw [hg0]
        refine ⟨by rw [copy_n (by decide), mset_k (by decide), mset_s], Or.inr ⟨rfl, by omega, hA.undo (by omega) ?_ ?_ ?_ ?_ ?_⟩⟩
        · funext j; unfold mcopy; by_cases hj : (1 : Nat) = 1 ∧ 0 ≤ j ∧ j < 0 + 321
          · rw [if_pos hj, if_pos hj, mset_r (by decide), mset_r (by decide)]
          · rw [if_neg hj, if_neg hj, mset_r (by decide), mset_r (by decide)]
        · rw [copy_n (by decide)]; exact ⟨mset_s, by rw [mset_k (by decide), mset_k (by decide)], by rw [mset_k (by decide), mset_k (by decide)]⟩
        · rw [copy_n (by decide), mset_r (by decide), mset_r (by decide)]
        · rw [copy_n (by decide), mset_r (by decide), mset_r (by decide)]
        · rw [copy_n (by decide), mset_r (by decide), mset_r (by decide)]
    · exact absurd c20 (by decide)
  · refine z_iconst (pc' := 9) X dX8_undo_8 rfl ?_
    refine z_goto (tgt := 13) X dX8_undo_9 (by decide) ?_
    refine z_mput (pc' := 16) X 10 3 rfl (by decide) q2073 rfl rfl rfl (by first | assumption | omega) dX8_undo_13 rfl (fun hR13 => ?_)
    refine z_aload_n (pc' := 17) X dX8_undo_16 rfl rfl ?_
    have hv17 := hR13 0 3
    refine z_mget (pc' := 20) X 10 rfl (by decide) q2073 rfl dX8_undo_17 rfl ?_
    rw [mset_s]
    rw [mset_s] at hv17
    refine z_if_le (tgt := 25) (pc' := 23) X (by first | assumption | omega) dX8_undo_20 rfl (by decide) (fun c20 => ?_) (fun c20 => ?_)
    · exact absurd c20 (by decide)
    · refine z_iconst (pc' := 24) X dX8_undo_23 rfl ?_
      refine z_ireturn X dX8_undo_24 (Nat.le_refl _) (Nat.le_refl _) (fun _ hh => ⟨_, hh, _, rfl, ?_, ?_⟩)
      · first | assumption | omega
      · exact ⟨by rw [mset_s]; unfold gUnd; rw [if_pos (by omega)], Or.inl ⟨by unfold gUnd; rw [if_pos (by omega)]; decide, hA.num (by decide)⟩⟩
theorem Y_X8_takeSnapshot : zYV yX8_takeSnapshot cX8_takeSnapshot 1 (some .int) 0 := ⟨⟨q2670, q2671, q132, q2672⟩, by decide +kernel, by decide⟩
set_option maxRecDepth 100000 in
theorem c_X8_takeSnapshot (l : Launch) (g : zG) (ma : Nat → Nat) (M : MM) (A : Ab) (P Q : Int) (hA : mRep M A) (hk : okA P Q A) (hP : P ≤ 900000) (hQ : Q ≤ 9000000) : mInt l yX8_takeSnapshot cX8_takeSnapshot 1 (some .int) 7 [vR (ma 0)] g ma M (fun r M' => outP 0 A (A.1.1 0) (A.1, some A.1, A.2.2) r M') := by
  refine mInt.mk (L0 := [some (vR (ma 0))]) (by decide) rfl (Nat.le_of_ble_eq_true rfl) rfl (fun C h hg hl hR X => ?_)
  subst hg hl
  obtain ⟨hS, hN, hH, hT⟩ := id hA
  obtain ⟨hkS, -, -, -⟩ := id hk
  obtain ⟨⟨kc1, -, kc3, kc4, kc5⟩, kb, kp, kq⟩ := id hkS
  have hI := hk.I hA hP hQ
  have hn := mI_n hI
  have hh0 : 0 ≤ M 0 0 ∧ M 0 0 ≤ 5 := ⟨by rw [hH.1]; omega, by rw [hH.1]; have := hH.2.1; omega⟩
  have s0 := sc_at hA (j := 0) (by unfold scI; omega)
  have s1 := sc_at hA (j := 1) (by unfold scI; omega)
  have hA0 : mRep (mset M 0 3 0) A := hA.num (by decide)
  have hS0 := hA0.1
  have hI0 : mI (mset M 0 3 0) := hk.I hA0 hP hQ
  have q4 := hS.2.1.1
  have q5 := hS.2.2.1.1
  have q6 := hS.2.2.2.1
  have p4 := hS0.2.1.1
  have p5 := hS0.2.2.1.1
  have p6 := hS0.2.2.2.1
  refine z_aload_n (pc' := 1) X dX8_takeSnapshot_0 rfl rfl ?_
  refine z_iconst (pc' := 2) X dX8_takeSnapshot_1 rfl ?_
  refine z_mput (pc' := 5) X 10 3 rfl (by decide) q2073 rfl rfl rfl (by first | assumption | omega) dX8_takeSnapshot_2 rfl (fun hR2 => ?_)
  refine z_aload_n (pc' := 6) X dX8_takeSnapshot_5 rfl rfl ?_
  refine z_mget (pc' := 9) X 0 rfl (by decide) q2063 rfl dX8_takeSnapshot_6 rfl ?_
  refine z_iconst (pc' := 10) X dX8_takeSnapshot_9 rfl ?_
  refine z_aload_n (pc' := 11) X dX8_takeSnapshot_10 rfl rfl ?_
  refine z_mget (pc' := 14) X 3 rfl (by decide) q2066 rfl dX8_takeSnapshot_11 rfl ?_
  refine z_iconst (pc' := 15) X dX8_takeSnapshot_14 rfl ?_
  refine z_S_void4 (pc' := 18) X Y_X8_lays q2155 dX8_takeSnapshot_15 rfl (by decide) (Nat.le_refl _) (Nat.le_refl _) (Nat.le_of_ble_eq_true rfl) (c_X8_lays _ _ _ _ 0 0 1 3 (by decide) (by decide) (by decide) (by decide) (by decide)) (fun M15 hp15 hR15 => ?_)
  subst hp15
  refine z_aload_n (pc' := 19) X dX8_takeSnapshot_18 rfl rfl ?_
  refine z_iconst (pc' := 20) X dX8_takeSnapshot_19 rfl ?_
  refine z_mput (pc' := 23) X 4 1 rfl (by decide) q2067 rfl rfl rfl (by first | assumption | omega) dX8_takeSnapshot_20 rfl (fun hR20 => ?_)
  refine z_aload_n (pc' := 24) X dX8_takeSnapshot_23 rfl rfl ?_
  refine z_mget (pc' := 27) X 0 rfl (by decide) q2063 rfl dX8_takeSnapshot_24 rfl ?_
  refine z_iconst (pc' := 28) X dX8_takeSnapshot_27 rfl ?_
  refine z_mld (pc' := 29) X (r := 1) (by decide) (show 0 ≤ _ ∧ _ < (321 : Int) by omega) dX8_takeSnapshot_28 rfl (fun hv28 => ?_)
  rw [mset_r (by decide), copy_n (by decide), mset_r (by decide)]
  rw [mset_r (by decide), copy_n (by decide), mset_r (by decide)] at hv28
  refine z_ireturn X dX8_takeSnapshot_29 (Nat.le_refl _) (Nat.le_refl _) (fun _ hh => ⟨_, hh, _, rfl, ?_, ?_⟩)
  · first | assumption | omega
  · refine ⟨by rw [mset_k (by decide), copy_n (by decide), mset_s], Or.inr ⟨rfl, s0, hA.snap ?_ (fun j x y => ?_) ?_ ?_ ?_⟩⟩
    · rw [mset_r (by decide), copy_n (by decide), mset_r (by decide)]
    · rw [mset_r (by decide)]; unfold mcopy; rw [if_pos ⟨rfl, by omega, by omega⟩, mset_r (by decide), show 0 + (j - 0) = j by omega]
    · exact ⟨by rw [mset_k (by decide), copy_n (by decide), mset_k (by decide)], mset_s, by rw [mset_k (by decide), copy_n (by decide), mset_k (by decide)]⟩
    · rw [mset_r (by decide), copy_n (by decide), mset_r (by decide)]
    · rw [mset_r (by decide), copy_n (by decide), mset_r (by decide)]
theorem Y_X8_restoreSnapshot : zYV yX8_restoreSnapshot cX8_restoreSnapshot 1 (some .int) 0 := ⟨⟨q2674, q2675, q132, q2676⟩, by decide +kernel, by decide⟩
set_option maxRecDepth 100000 in
theorem c_X8_restoreSnapshot (l : Launch) (g : zG) (ma : Nat → Nat) (M : MM) (A : Ab) (P Q : Int) (hA : mRep M A) (hk : okA P Q A) (hP : P ≤ 900000) (hQ : Q ≤ 9000000) : mInt l yX8_restoreSnapshot cX8_restoreSnapshot 1 (some .int) 7 [vR (ma 0)] g ma M (fun r M' => outP (gRes A) A ((snpS A).1 0) (svA A (snpS A)) r M') := by
  refine mInt.mk (L0 := [some (vR (ma 0))]) (by decide) rfl (Nat.le_of_ble_eq_true rfl) rfl (fun C h hg hl hR X => ?_)
  subst hg hl
  obtain ⟨hS, hN, hH, hT⟩ := id hA
  obtain ⟨hkS, -, -, -⟩ := id hk
  obtain ⟨⟨kc1, -, kc3, kc4, kc5⟩, kb, kp, kq⟩ := id hkS
  have hI := hk.I hA hP hQ
  have hn := mI_n hI
  have hh0 : 0 ≤ M 0 0 ∧ M 0 0 ≤ 5 := ⟨by rw [hH.1]; omega, by rw [hH.1]; have := hH.2.1; omega⟩
  have s0 := sc_at hA (j := 0) (by unfold scI; omega)
  have s1 := sc_at hA (j := 1) (by unfold scI; omega)
  have hA0 : mRep (mset M 0 3 0) A := hA.num (by decide)
  have hS0 := hA0.1
  have hI0 : mI (mset M 0 3 0) := hk.I hA0 hP hQ
  have q4 := hS.2.1.1
  have q5 := hS.2.2.1.1
  have q6 := hS.2.2.2.1
  have p4 := hS0.2.1.1
  have p5 := hS0.2.2.1.1
  have p6 := hS0.2.2.2.1
  have hN1 : (M 0 1 = 0 ∧ A.2.1 = none) ∨ (M 0 1 = 1 ∧ A.2.1 = some (snpS A) ∧ sRep (M 3) (snpS A)) := by
    rcases hN with ⟨a, b⟩ | ⟨a, S, b, c⟩
    · exact Or.inl ⟨a, b⟩
    · refine Or.inr ⟨a, ?_, ?_⟩
      · unfold snpS; rw [b]; rfl
      · unfold snpS; rw [b]; exact c
  refine z_aload_n (pc' := 1) X dX8_restoreSnapshot_0 rfl rfl ?_
  refine z_aload_n (pc' := 2) X dX8_restoreSnapshot_1 rfl rfl ?_
  have hv2 := hR 0 1
  refine z_mget (pc' := 5) X 4 rfl (by decide) q2067 rfl dX8_restoreSnapshot_2 rfl ?_
  refine z_if_ne (tgt := 12) (pc' := 8) X (by first | assumption | omega) dX8_restoreSnapshot_5 rfl (by decide) (fun c5 => ?_) (fun c5 => ?_)
  · refine z_iconst (pc' := 13) X dX8_restoreSnapshot_12 rfl ?_
    refine z_mput (pc' := 16) X 10 3 rfl (by decide) q2073 rfl rfl rfl (by first | assumption | omega) dX8_restoreSnapshot_13 rfl (fun hR13 => ?_)
    refine z_aload_n (pc' := 17) X dX8_restoreSnapshot_16 rfl rfl ?_
    have hv17 := hR13 0 3
    refine z_mget (pc' := 20) X 10 rfl (by decide) q2073 rfl dX8_restoreSnapshot_17 rfl ?_
    rw [mset_s]
    rw [mset_s] at hv17
    refine z_if_le (tgt := 25) (pc' := 23) X (by first | assumption | omega) dX8_restoreSnapshot_20 rfl (by decide) (fun c20 => ?_) (fun c20 => ?_)
    · refine z_aload_n (pc' := 26) X dX8_restoreSnapshot_25 rfl rfl ?_
      refine z_V_void0 (pc' := 29) X rfl Y_X8_saves q2151 dX8_restoreSnapshot_26 rfl (by decide) (Nat.le_refl _) (Nat.le_refl _) (Nat.le_of_ble_eq_true rfl) (c_X8_saves _ _ _ _ (by rw [mset_k (by decide)]; exact hh0)) (fun M26 hp26 hR26 => ?_)
      have hg26 := mThr hp26
      have hA2 := (hA.num (k := 3) (by decide)).saved hp26
      obtain ⟨z1, z2, z3⟩ := (show M 0 1 = 1 ∧ A.2.1 = some (snpS A) ∧ sRep (M 3) (snpS A) from hN1.resolve_left (fun q => c5 q.1))
      have z4 : M26 3 = M 3 := by rw [hp26.1 3 (by decide) (by decide), mset_r (by decide)]
      refine z_aload_n (pc' := 30) X dX8_restoreSnapshot_29 rfl rfl ?_
      refine z_mget (pc' := 33) X 3 rfl (by decide) q2066 rfl dX8_restoreSnapshot_30 rfl ?_
      refine z_iconst (pc' := 34) X dX8_restoreSnapshot_33 rfl ?_
      refine z_aload_n (pc' := 35) X dX8_restoreSnapshot_34 rfl rfl ?_
      refine z_mget (pc' := 38) X 0 rfl (by decide) q2063 rfl dX8_restoreSnapshot_35 rfl ?_
      refine z_iconst (pc' := 39) X dX8_restoreSnapshot_38 rfl ?_
      refine z_S_void4 (pc' := 42) X Y_X8_lays q2155 dX8_restoreSnapshot_39 rfl (by decide) (Nat.le_refl _) (Nat.le_refl _) (Nat.le_of_ble_eq_true rfl) (c_X8_lays _ _ _ _ 0 0 3 1 (by decide) (by decide) (by decide) (by decide) (by decide)) (fun M39 hp39 hR39 => ?_)
      subst hp39
      have hX : sRep (mcopy M26 3 0 1 0 321 1) (snpS A) := copy_1 (M := M26) (r1 := 3) (a := 0) (z3.congr (fun j x y => by rw [z4, Int.zero_add]))
      refine z_aload_n (pc' := 43) X dX8_restoreSnapshot_42 rfl rfl ?_
      refine z_mget (pc' := 46) X 0 rfl (by decide) q2063 rfl dX8_restoreSnapshot_43 rfl ?_
      refine z_iconst (pc' := 47) X dX8_restoreSnapshot_46 rfl ?_
      refine z_mld (pc' := 48) X (r := 1) (by decide) (show 0 ≤ _ ∧ _ < (321 : Int) by omega) dX8_restoreSnapshot_47 rfl (fun hv47 => ?_)
      refine z_ireturn X dX8_restoreSnapshot_48 (Nat.le_refl _) (Nat.le_refl _) (fun _ hh => ⟨_, hh, _, rfl, ?_, ?_⟩)
      · first | assumption | omega
      · have hg0 : gRes A = 0 := by unfold gRes; rw [z2]; rfl
        rw [hg0]
        exact ⟨by rw [copy_n (by decide), hg26], Or.inr ⟨rfl, hX.1 0 (by unfold scI; omega), hA2.row hX (fun q hq => copy_n hq)⟩⟩
    · exact absurd c20 (by decide)
  · refine z_iconst (pc' := 9) X dX8_restoreSnapshot_8 rfl ?_
    refine z_goto (tgt := 13) X dX8_restoreSnapshot_9 (by decide) ?_
    refine z_mput (pc' := 16) X 10 3 rfl (by decide) q2073 rfl rfl rfl (by first | assumption | omega) dX8_restoreSnapshot_13 rfl (fun hR13 => ?_)
    refine z_aload_n (pc' := 17) X dX8_restoreSnapshot_16 rfl rfl ?_
    have hv17 := hR13 0 3
    refine z_mget (pc' := 20) X 10 rfl (by decide) q2073 rfl dX8_restoreSnapshot_17 rfl ?_
    rw [mset_s]
    rw [mset_s] at hv17
    refine z_if_le (tgt := 25) (pc' := 23) X (by first | assumption | omega) dX8_restoreSnapshot_20 rfl (by decide) (fun c20 => ?_) (fun c20 => ?_)
    · exact absurd c20 (by decide)
    · refine z_iconst (pc' := 24) X dX8_restoreSnapshot_23 rfl ?_
      refine z_ireturn X dX8_restoreSnapshot_24 (Nat.le_refl _) (Nat.le_refl _) (fun _ hh => ⟨_, hh, _, rfl, ?_, ?_⟩)
      · first | assumption | omega
      · have z0 : A.2.1 = none := hN1.elim (fun q => q.2) (fun q => absurd (q.1.symm.trans c5) (by decide))
        have hg1 : gRes A = 1 := by unfold gRes; rw [z0]; rfl
        rw [hg1]
        exact ⟨mset_s, Or.inl ⟨by decide, hA.num (by decide)⟩⟩
def uF1 (M : MM) : Int := M 1 7 + zsum (fun j => 40 * mB M j 1) (M 1 4)
def uF2 (M : MM) : Int := uF1 M + zsum (mU M) 3
def uF3 (M : MM) : Int := uF2 M + zsum (fun j => mP M j 3 * mZ (mP M j 1)) (M 1 5)
def uF4 (M : MM) : Int := uF3 M + zsum (fun j => mRm M j 3 * 24 * mZ (mRm M j 1)) (M 1 6)
theorem mul_z {a b hi : Int} (h : 0 ≤ a ∧ a ≤ hi) (hz : 0 ≤ b ∧ b ≤ 2) : 0 ≤ a * mZ b ∧ a * mZ b ≤ 4 * hi := by
  unfold mZ
  (repeat' split) <;> omega
theorem uS1 {M : MM} (h : mI M) {k : Int} (hk : 0 ≤ k ∧ k ≤ M 1 4) : 0 ≤ zsum (fun j => 40 * mB M j 1) k ∧ zsum (fun j => 40 * mB M j 1) k ≤ 12000 * k :=
  zsum_le hk.1 (fun j a c => by have := mI_b h (p := j) ⟨a, by omega⟩; omega)
theorem uS2 {M : MM} (h : mI M) {k : Int} (hk : 0 ≤ k ∧ k ≤ 3) : 0 ≤ zsum (mU M) k ∧ zsum (mU M) k ≤ 8000 * k :=
  zsum_le hk.1 (fun j a c => by have := mI_v h (v := j) ⟨a, by omega⟩; omega)
theorem uS3 {M : MM} (h : mI M) {k : Int} (hk : 0 ≤ k ∧ k ≤ M 1 5) : 0 ≤ zsum (fun j => mP M j 3 * mZ (mP M j 1)) k ∧ zsum (fun j => mP M j 3 * mZ (mP M j 1)) k ≤ 1920 * k :=
  zsum_le hk.1 (fun j a c => by have q := mI_p h (p := j) ⟨a, by omega⟩; exact mul_z q.2.2.2.1 q.2.1)
theorem uS4 {M : MM} (h : mI M) {k : Int} (hk : 0 ≤ k ∧ k ≤ M 1 6) : 0 ≤ zsum (fun j => mRm M j 3 * 24 * mZ (mRm M j 1)) k ∧ zsum (fun j => mRm M j 3 * 24 * mZ (mRm M j 1)) k ≤ 1920 * k :=
  zsum_le hk.1 (fun j a c => by
    have q := mI_q h (p := j) ⟨a, by omega⟩
    have h2 := mul_z (a := mRm M j 3 * 24) (hi := 480) (by omega) q.2.1
    omega)
theorem uF_b {M : MM} (h : mI M) : (0 ≤ uF1 M ∧ uF1 M ≤ 10300000) ∧ (0 ≤ uF2 M ∧ uF2 M ≤ 10350000) ∧ (0 ≤ uF3 M ∧ uF3 M ≤ 10400000) := by
  have n := mI_n h
  have s := mI_s h
  have a1 := uS1 h ⟨n.1.1, Int.le_refl _⟩
  have a2 := uS2 h (k := 3) (by decide)
  have a3 := uS3 h ⟨n.2.1.1, Int.le_refl _⟩
  unfold uF3 uF2 uF1
  omega
def lsum {α : Type} (f : α → Int) : List α → Int
  | [] => 0
  | x :: t => f x + lsum f t
theorem lsum_app {α : Type} (f : α → Int) : ∀ x y : List α, lsum f (x ++ y) = lsum f x + lsum f y
  | [], y => (Int.zero_add _).symm
  | q :: t, y => by
    show f q + lsum f (t ++ y) = f q + lsum f t + lsum f y
    rw [lsum_app f t y]
    omega
theorem zsum_l {α : Type} {g : Int → Int} {f : α → Int} {l : List α} (h : ∀ (i : Nat) (b : α), l[i]? = some b → g i = f b) : zsum g l.length = lsum f l := by
  have key : ∀ n : Nat, n ≤ l.length → zsum g n = lsum f (l.take n) := by
    intro n
    induction n with
    | zero => intro _; rw [List.take_zero]; rfl
    | succ n ih =>
      intro hn
      rw [show ((n + 1 : Nat) : Int) = (n : Int) + 1 by omega, zsum_s (by omega), ih (by omega), List.take_succ_eq_append_getElem hn, lsum_app, h n l[n] (List.getElem?_eq_getElem hn)]
      show _ + f l[n] = _ + (f l[n] + 0)
      omega
  rw [key l.length (Nat.le_refl _), List.take_length]
def unitsS (S : St) : Int := S.1 7 + lsum (fun b => 40 * b.2.1) S.2.1 + (S.1 117 + S.1 120 + S.1 123) + lsum (fun p => p.2.2.2.1 * mZ p.2.1) S.2.2.1 + lsum unitsQ S.2.2.2
theorem uF_S {M : MM} {S : St} (h : sRep (M 1) S) : uF4 M = unitsS S := by
  have z3 : ∀ f : Int → Int, zsum f 3 = 0 + f 0 + f 1 + f 2 := fun f => rfl
  obtain ⟨hs, hb, hp, hr⟩ := h
  unfold uF4 uF3 uF2 uF1 unitsS
  rw [z3, show mU M 0 = M 1 117 from rfl, show mU M 1 = M 1 120 from rfl, show mU M 2 = M 1 123 from rfl]
  rw [hs 7 (by unfold scI; omega), hs 117 (by unfold scI; omega), hs 120 (by unfold scI; omega), hs 123 (by unfold scI; omega), hb.1, hp.1, hr.1]
  rw [zsum_l (g := fun j => 40 * mB M j 1) (f := fun b => 40 * b.2.1) (l := S.2.1) (fun i b hi => by show 40 * mB M i 1 = _; rw [show mB M i 1 = b.2.1 from (hb.2.2 i b hi).2.1])]
  rw [zsum_l (g := fun j => mP M j 3 * mZ (mP M j 1)) (f := fun p => p.2.2.2.1 * mZ p.2.1) (l := S.2.2.1) (fun i b hi => by
    show mP M i 3 * mZ (mP M i 1) = _
    rw [show mP M i 3 = b.2.2.2.1 from (hp.2.2 i b hi).2.2.2.1, show mP M i 1 = b.2.1 from (hp.2.2 i b hi).2.1])]
  rw [zsum_l (g := fun j => mRm M j 3 * 24 * mZ (mRm M j 1)) (f := unitsQ) (l := S.2.2.2) (fun i b hi => by
    show mRm M i 3 * 24 * mZ (mRm M i 1) = _
    rw [show mRm M i 3 = b.2.2.2 from (hr.2.2 i b hi).2.2.2, show mRm M i 1 = b.2.1 from (hr.2.2 i b hi).2.1]
    rfl)]
  omega
theorem Y_X8_allUnits : zYV yX8_allUnits cX8_allUnits 3 (some .int) 0 := ⟨⟨q2572, qs96, q132, q2573⟩, by decide +kernel, by decide⟩
set_option maxRecDepth 100000 in
theorem c_X8_allUnits (l : Launch) (g : zG) (ma : Nat → Nat) (M : MM) (A : Ab) (P Q : Int) (hA : mRep M A) (hk : okA P Q A) (hP : P ≤ 900000) (hQ : Q ≤ 9000000) : mInt l yX8_allUnits cX8_allUnits 3 (some .int) 6 [vR (ma 0)] g ma M (fun r M' => outP 0 A (unitsS A.1) A r M') := by
  refine mInt.mk (L0 := [some (vR (ma 0)), none, none]) (by decide) rfl (Nat.le_of_ble_eq_true rfl) rfl (fun C h hg hl hR X => ?_)
  subst hg hl
  obtain ⟨hS, hN, hH, hT⟩ := id hA
  obtain ⟨hkS, -, -, -⟩ := id hk
  obtain ⟨⟨kc1, -, kc3, kc4, kc5⟩, kb, kp, kq⟩ := id hkS
  have hI := hk.I hA hP hQ
  have hn := mI_n hI
  have hh0 : 0 ≤ M 0 0 ∧ M 0 0 ≤ 5 := ⟨by rw [hH.1]; omega, by rw [hH.1]; have := hH.2.1; omega⟩
  have s0 := sc_at hA (j := 0) (by unfold scI; omega)
  have s1 := sc_at hA (j := 1) (by unfold scI; omega)
  have hA0 : mRep (mset M 0 3 0) A := hA.num (by decide)
  have hS0 := hA0.1
  have hI0 : mI (mset M 0 3 0) := hk.I hA0 hP hQ
  have q4 := hS.2.1.1
  have q5 := hS.2.2.1.1
  have q6 := hS.2.2.2.1
  have p4 := hS0.2.1.1
  have p5 := hS0.2.2.1.1
  have p6 := hS0.2.2.2.1
  have nI := mI_n hI0
  have sI := mI_s hI0
  have uB := uF_b hI0
  refine z_aload_n (pc' := 1) X dX8_allUnits_0 rfl rfl ?_
  refine z_iconst (pc' := 2) X dX8_allUnits_1 rfl ?_
  refine z_mput (pc' := 5) X 10 3 rfl (by decide) q2073 rfl rfl rfl (by first | assumption | omega) dX8_allUnits_2 rfl (fun hR2 => ?_)
  refine z_aload_n (pc' := 6) X dX8_allUnits_5 rfl rfl ?_
  refine z_mget (pc' := 9) X 0 rfl (by decide) q2063 rfl dX8_allUnits_6 rfl ?_
  refine z_bipush (pc' := 11) X dX8_allUnits_9 rfl (by decide) ?_
  refine z_mld (pc' := 12) X (r := 1) (by decide) (show 0 ≤ _ ∧ _ < (321 : Int) by omega) dX8_allUnits_11 rfl (fun hv11 => ?_)
  refine z_istore_n (pc' := 13) X dX8_allUnits_12 rfl (by decide) rfl ?_
  dsimp only [List.set]
  refine z_iconst (pc' := 14) X dX8_allUnits_13 rfl ?_
  refine z_istore_n (pc' := 15) X dX8_allUnits_14 rfl (by decide) rfl ?_
  dsimp only [List.set]
  have loop15 : ∀ (N : Nat) (s k : Int), (0 ≤ k ∧ k ≤ mset M 0 3 0 1 4) → (s = mset M 0 3 0 1 7 + zsum (fun j => 40 * mB (mset M 0 3 0) j 1) k) → (mset M 0 3 0 1 4 - k).toNat < N → ZP C 3 (mF ma h (mset M 0 3 0)) 0 0 [some (vR (ma 0)), some (vI s), some (vI k)] 15 [] := by
    intro N
    induction N with
    | zero => intro s k hk hs hN; exact absurd hN (Nat.not_lt_zero _)
    | succ N ih15 =>
      intro s k hk hs hN
      refine ZP.fact (P := mR (mset M 0 3 0)) (fun _ h => h.1.2.2.2) (fun hR15 => ?_)
      have hz := uS1 hI0 hk
      refine z_iload_n (pc' := 16) X dX8_allUnits_15 rfl rfl ?_
      refine z_aload_n (pc' := 17) X dX8_allUnits_16 rfl rfl ?_
      refine z_mget (pc' := 20) X 0 rfl (by decide) q2063 rfl dX8_allUnits_17 rfl ?_
      refine z_iconst (pc' := 21) X dX8_allUnits_20 rfl ?_
      refine z_mld (pc' := 22) X (r := 1) (by decide) (show 0 ≤ _ ∧ _ < (321 : Int) by omega) dX8_allUnits_21 rfl (fun hv21 => ?_)
      refine z_icmp_ge (tgt := 43) (pc' := 25) X (by first | assumption | omega) (by first | assumption | omega) dX8_allUnits_22 rfl (by decide) (fun c22 => ?_) (fun c22 => ?_)
      · refine z_iconst (pc' := 44) X dX8_allUnits_43 rfl ?_
        refine z_istore_n (pc' := 45) X dX8_allUnits_44 rfl (by decide) rfl ?_
        dsimp only [List.set]
        have loop45 : ∀ (N : Nat) (s k : Int), (0 ≤ k ∧ k ≤ 3) → (s = uF1 (mset M 0 3 0) + zsum (mU (mset M 0 3 0)) k) → (3 - k).toNat < N → ZP C 3 (mF ma h (mset M 0 3 0)) 0 0 [some (vR (ma 0)), some (vI s), some (vI k)] 45 [] := by
          intro N
          induction N with
          | zero => intro s k hk hs hN; exact absurd hN (Nat.not_lt_zero _)
          | succ N ih45 =>
            intro s k hk hs hN
            refine ZP.fact (P := mR (mset M 0 3 0)) (fun _ h => h.1.2.2.2) (fun hR45 => ?_)
            have hz := uS2 hI0 hk
            refine z_iload_n (pc' := 46) X dX8_allUnits_45 rfl rfl ?_
            refine z_iconst (pc' := 47) X dX8_allUnits_46 rfl ?_
            refine z_icmp_ge (tgt := 64) (pc' := 50) X (by first | assumption | omega) (by first | assumption | omega) dX8_allUnits_47 rfl (by decide) (fun c47 => ?_) (fun c47 => ?_)
            · refine z_iconst (pc' := 65) X dX8_allUnits_64 rfl ?_
              refine z_istore_n (pc' := 66) X dX8_allUnits_65 rfl (by decide) rfl ?_
              dsimp only [List.set]
              have loop66 : ∀ (N : Nat) (s k : Int), (0 ≤ k ∧ k ≤ mset M 0 3 0 1 5) → (s = uF2 (mset M 0 3 0) + zsum (fun j => mP (mset M 0 3 0) j 3 * mZ (mP (mset M 0 3 0) j 1)) k) → (mset M 0 3 0 1 5 - k).toNat < N → ZP C 3 (mF ma h (mset M 0 3 0)) 0 0 [some (vR (ma 0)), some (vI s), some (vI k)] 66 [] := by
                intro N
                induction N with
                | zero => intro s k hk hs hN; exact absurd hN (Nat.not_lt_zero _)
                | succ N ih66 =>
                  intro s k hk hs hN
                  refine ZP.fact (P := mR (mset M 0 3 0)) (fun _ h => h.1.2.2.2) (fun hR66 => ?_)
                  have hz := uS3 hI0 hk
                  refine z_iload_n (pc' := 67) X dX8_allUnits_66 rfl rfl ?_
                  refine z_aload_n (pc' := 68) X dX8_allUnits_67 rfl rfl ?_
                  refine z_mget (pc' := 71) X 0 rfl (by decide) q2063 rfl dX8_allUnits_68 rfl ?_
                  refine z_iconst (pc' := 72) X dX8_allUnits_71 rfl ?_
                  refine z_mld (pc' := 73) X (r := 1) (by decide) (show 0 ≤ _ ∧ _ < (321 : Int) by omega) dX8_allUnits_72 rfl (fun hv72 => ?_)
                  refine z_icmp_ge (tgt := 101) (pc' := 76) X (by first | assumption | omega) (by first | assumption | omega) dX8_allUnits_73 rfl (by decide) (fun c73 => ?_) (fun c73 => ?_)
                  · refine z_iconst (pc' := 102) X dX8_allUnits_101 rfl ?_
                    refine z_istore_n (pc' := 103) X dX8_allUnits_102 rfl (by decide) rfl ?_
                    dsimp only [List.set]
                    have loop103 : ∀ (N : Nat) (s k : Int), (0 ≤ k ∧ k ≤ mset M 0 3 0 1 6) → (s = uF3 (mset M 0 3 0) + zsum (fun j => mRm (mset M 0 3 0) j 3 * 24 * mZ (mRm (mset M 0 3 0) j 1)) k) → (mset M 0 3 0 1 6 - k).toNat < N → ZP C 3 (mF ma h (mset M 0 3 0)) 0 0 [some (vR (ma 0)), some (vI s), some (vI k)] 103 [] := by
                      intro N
                      induction N with
                      | zero => intro s k hk hs hN; exact absurd hN (Nat.not_lt_zero _)
                      | succ N ih103 =>
                        intro s k hk hs hN
                        refine ZP.fact (P := mR (mset M 0 3 0)) (fun _ h => h.1.2.2.2) (fun hR103 => ?_)
                        have hz := uS4 hI0 hk
                        refine z_iload_n (pc' := 104) X dX8_allUnits_103 rfl rfl ?_
                        refine z_aload_n (pc' := 105) X dX8_allUnits_104 rfl rfl ?_
                        refine z_mget (pc' := 108) X 0 rfl (by decide) q2063 rfl dX8_allUnits_105 rfl ?_
                        refine z_bipush (pc' := 110) X dX8_allUnits_108 rfl (by decide) ?_
                        refine z_mld (pc' := 111) X (r := 1) (by decide) (show 0 ≤ _ ∧ _ < (321 : Int) by omega) dX8_allUnits_110 rfl (fun hv110 => ?_)
                        refine z_icmp_ge (tgt := 128) (pc' := 114) X (by first | assumption | omega) (by first | assumption | omega) dX8_allUnits_111 rfl (by decide) (fun c111 => ?_) (fun c111 => ?_)
                        · refine z_iload_n (pc' := 129) X dX8_allUnits_128 rfl rfl ?_
                          refine z_ireturn X dX8_allUnits_129 (Nat.le_refl _) (Nat.le_refl _) (fun _ hh => ⟨_, hh, _, rfl, ?_, ?_⟩)
                          · first | assumption | omega
                          · have e4 : s = uF4 (mset M 0 3 0) := by rw [hs, show k = mset M 0 3 0 1 6 by omega]; rfl
                            rw [e4]
                            exact ⟨mset_s, Or.inr ⟨rfl, uF_S hS0, hA0⟩⟩
                        · refine z_iload_n (pc' := 115) X dX8_allUnits_114 rfl rfl ?_
                          refine z_aload_n (pc' := 116) X dX8_allUnits_115 rfl rfl ?_
                          refine z_iload_n (pc' := 117) X dX8_allUnits_116 rfl rfl ?_
                          refine z_V_fun1 (pc' := 120) X rfl Y_X8_unitsOf q2362 dX8_allUnits_117 rfl (by decide) (Nat.le_refl _) (Nat.le_refl _) (Nat.le_of_ble_eq_true rfl) (c_X8_unitsOf _ _ _ _ k (by omega) hI0) (fun r117 hr117 hp117 => ?_)
                          subst hp117
                          have hb117 := (mI_q hI0 (p := k) (by omega)).2.2.2
                          have hb118 := mul_z (a := mRm (mset M 0 3 0) k 3 * 24) (hi := 480) (by omega) (mI_q hI0 (p := k) (by omega)).2.1
                          refine z_iadd (pc' := 121) X dX8_allUnits_120 rfl ?_
                          refine z_istore_n (pc' := 122) X dX8_allUnits_121 rfl (by decide) rfl ?_
                          dsimp only [List.set]
                          refine z_iinc (pc' := 125) X dX8_allUnits_122 rfl (by decide) rfl rfl ?_
                          dsimp only [List.set]
                          refine z_goto (tgt := 103) X dX8_allUnits_125 (by decide) ?_
                          refine ZP.wk (L' := [some (vR (ma 0)), some (vI _), some (vI _)]) (And.intro rfl (And.intro rfl (And.intro rfl (trivial)))) ?_
                          exact ih103 _ _ (by omega) (by rw [zsum_s hk.1, hs]; omega) (by omega)
                    have e3 : s = uF3 (mset M 0 3 0) := by rw [hs, show k = mset M 0 3 0 1 5 by omega]; rfl
                    refine ZP.wk (L' := [some (vR (ma 0)), some (vI _), some (vI _)]) (And.intro rfl (And.intro rfl (And.intro rfl (trivial)))) ?_
                    exact loop103 _ _ _ (by omega) (by rw [zsum_0]; omega) (Nat.lt_succ_self _)
                  · refine z_iload_n (pc' := 77) X dX8_allUnits_76 rfl rfl ?_
                    refine z_aload_n (pc' := 78) X dX8_allUnits_77 rfl rfl ?_
                    refine z_iload_n (pc' := 79) X dX8_allUnits_78 rfl rfl ?_
                    refine z_iconst (pc' := 80) X dX8_allUnits_79 rfl ?_
                    refine z_V_fun2 (pc' := 83) X rfl Y_X8_pile q2326 dX8_allUnits_80 rfl (by decide) (Nat.le_refl _) (Nat.le_refl _) (Nat.le_of_ble_eq_true rfl) (c_X8_pile _ _ _ _ _ _ (by first | assumption | omega) (by first | assumption | omega)) (fun r80 hr80 hp80 => ?_)
                    subst hp80
                    have hb80 := (mI_p hI0 (p := k) (by omega)).2.2.2.1
                    refine z_aload_n (pc' := 84) X dX8_allUnits_83 rfl rfl ?_
                    refine z_iload_n (pc' := 85) X dX8_allUnits_84 rfl rfl ?_
                    refine z_iconst (pc' := 86) X dX8_allUnits_85 rfl ?_
                    refine z_V_fun2 (pc' := 89) X rfl Y_X8_pile q2326 dX8_allUnits_86 rfl (by decide) (Nat.le_refl _) (Nat.le_refl _) (Nat.le_of_ble_eq_true rfl) (c_X8_pile _ _ _ _ _ _ (by first | assumption | omega) (by first | assumption | omega)) (fun r86 hr86 hp86 => ?_)
                    subst hp86
                    have hb86 := (mI_p hI0 (p := k) (by omega)).2.1
                    have hb87 := mul_z hb80 hb86
                    refine z_S_fun1 (pc' := 92) X Y_X8_unitsBy q2296 dX8_allUnits_89 rfl (by decide) (Nat.le_refl _) (Nat.le_refl _) (Nat.le_of_ble_eq_true rfl) (fun h _ => c_X8_unitsBy _ _ _ _ (by first | assumption | omega)) (fun r89 hr89 hp89 => ?_)
                    subst hp89
                    refine z_imul (pc' := 93) X dX8_allUnits_92 rfl ?_
                    refine z_iadd (pc' := 94) X dX8_allUnits_93 rfl ?_
                    refine z_istore_n (pc' := 95) X dX8_allUnits_94 rfl (by decide) rfl ?_
                    dsimp only [List.set]
                    refine z_iinc (pc' := 98) X dX8_allUnits_95 rfl (by decide) rfl rfl ?_
                    dsimp only [List.set]
                    refine z_goto (tgt := 66) X dX8_allUnits_98 (by decide) ?_
                    refine ZP.wk (L' := [some (vR (ma 0)), some (vI _), some (vI _)]) (And.intro rfl (And.intro rfl (And.intro rfl (trivial)))) ?_
                    exact ih66 _ _ (by omega) (by rw [zsum_s hk.1, hs]; omega) (by omega)
              have e2 : s = uF2 (mset M 0 3 0) := by rw [hs, show k = 3 by omega]; rfl
              refine ZP.wk (L' := [some (vR (ma 0)), some (vI _), some (vI _)]) (And.intro rfl (And.intro rfl (And.intro rfl (trivial)))) ?_
              exact loop66 _ _ _ (by omega) (by rw [zsum_0]; omega) (Nat.lt_succ_self _)
            · refine z_iload_n (pc' := 51) X dX8_allUnits_50 rfl rfl ?_
              refine z_aload_n (pc' := 52) X dX8_allUnits_51 rfl rfl ?_
              refine z_iload_n (pc' := 53) X dX8_allUnits_52 rfl rfl ?_
              refine z_V_fun1 (pc' := 56) X rfl Y_X8_units q2220 dX8_allUnits_53 rfl (by decide) (Nat.le_refl _) (Nat.le_refl _) (Nat.le_of_ble_eq_true rfl) (c_X8_units _ _ _ _ _ (by first | assumption | omega)) (fun r53 hr53 hp53 => ?_)
              subst hp53
              have hb53 := (mI_v hI0 (v := k) (by omega)).1
              refine z_iadd (pc' := 57) X dX8_allUnits_56 rfl ?_
              refine z_istore_n (pc' := 58) X dX8_allUnits_57 rfl (by decide) rfl ?_
              dsimp only [List.set]
              refine z_iinc (pc' := 61) X dX8_allUnits_58 rfl (by decide) rfl rfl ?_
              dsimp only [List.set]
              refine z_goto (tgt := 45) X dX8_allUnits_61 (by decide) ?_
              refine ZP.wk (L' := [some (vR (ma 0)), some (vI _), some (vI _)]) (And.intro rfl (And.intro rfl (And.intro rfl (trivial)))) ?_
              exact ih45 _ _ (by omega) (by rw [zsum_s hk.1, hs]; omega) (by omega)
        have e1 : s = uF1 (mset M 0 3 0) := by rw [hs, show k = mset M 0 3 0 1 4 by omega]; rfl
        refine ZP.wk (L' := [some (vR (ma 0)), some (vI _), some (vI _)]) (And.intro rfl (And.intro rfl (And.intro rfl (trivial)))) ?_
        exact loop45 _ _ _ (by omega) (by rw [zsum_0]; omega) (Nat.lt_succ_self _)
      · refine z_iload_n (pc' := 26) X dX8_allUnits_25 rfl rfl ?_
        refine z_bipush (pc' := 28) X dX8_allUnits_26 rfl (by decide) ?_
        refine z_aload_n (pc' := 29) X dX8_allUnits_28 rfl rfl ?_
        refine z_iload_n (pc' := 30) X dX8_allUnits_29 rfl rfl ?_
        refine z_iconst (pc' := 31) X dX8_allUnits_30 rfl ?_
        refine z_V_fun2 (pc' := 34) X rfl Y_X8_bale q2194 dX8_allUnits_31 rfl (by decide) (Nat.le_refl _) (Nat.le_refl _) (Nat.le_of_ble_eq_true rfl) (c_X8_bale _ _ _ _ _ _ (by first | assumption | omega) (by first | assumption | omega)) (fun r31 hr31 hp31 => ?_)
        subst hp31
        have hb31 := (mI_b hI0 (p := k) (by omega)).2.1
        refine z_imul (pc' := 35) X dX8_allUnits_34 rfl ?_
        refine z_iadd (pc' := 36) X dX8_allUnits_35 rfl ?_
        refine z_istore_n (pc' := 37) X dX8_allUnits_36 rfl (by decide) rfl ?_
        dsimp only [List.set]
        refine z_iinc (pc' := 40) X dX8_allUnits_37 rfl (by decide) rfl rfl ?_
        dsimp only [List.set]
        refine z_goto (tgt := 15) X dX8_allUnits_40 (by decide) ?_
        refine ZP.wk (L' := [some (vR (ma 0)), some (vI _), some (vI _)]) (And.intro rfl (And.intro rfl (And.intro rfl (trivial)))) ?_
        exact ih15 _ _ (by omega) (by rw [zsum_s hk.1, hs]; omega) (by omega)
  refine ZP.wk (L' := [some (vR (ma 0)), some (vI _), some (vI _)]) (And.intro rfl (And.intro rfl (And.intro rfl (trivial)))) ?_
  exact loop15 _ _ _ (by omega) (by rw [zsum_0]; omega) (Nat.lt_succ_self _)
theorem Y_X8_unitsByPlaces : zYV yX8_unitsByPlaces cX8_unitsByPlaces 1 (some .int) 0 := ⟨⟨q2567, q2568, q132, q2569⟩, by decide +kernel, by decide⟩
set_option maxRecDepth 100000 in
theorem c_X8_unitsByPlaces (l : Launch) (g : zG) (ma : Nat → Nat) (M : MM) (A : Ab) (P Q : Int) (hA : mRep M A) (hk : okA P Q A) (hP : P ≤ 900000) (hQ : Q ≤ 9000000) : mInt l yX8_unitsByPlaces cX8_unitsByPlaces 1 (some .int) 7 [vR (ma 0)] g ma M (fun r M' => outP 0 A (unitsS A.1) A r M') := by
  refine mInt.mk (L0 := [some (vR (ma 0))]) (by decide) rfl (Nat.le_of_ble_eq_true rfl) rfl (fun C h hg hl hR X => ?_)
  subst hg hl
  refine z_aload_n (pc' := 1) X dX8_unitsByPlaces_0 rfl rfl ?_
  refine z_V_int0 (pc' := 4) X rfl Y_X8_allUnits q2570 dX8_unitsByPlaces_1 rfl (by decide) (Nat.le_refl _) (Nat.le_refl _) (Nat.le_of_ble_eq_true rfl) (c_X8_allUnits _ _ _ _ A P Q hA hk hP hQ) (fun r1 M1 hr1 hp1 hR1 => ?_)
  refine z_ireturn X dX8_unitsByPlaces_4 (Nat.le_refl _) (Nat.le_refl _) (fun _ hh => ⟨_, hh, _, rfl, ?_, ?_⟩)
  · first | assumption | omega
  · exact hp1
theorem Y_X8_unitsByAccount : zYV yX8_unitsByAccount cX8_unitsByAccount 1 (some .int) 0 := ⟨⟨q2575, q2576, q132, q2577⟩, by decide +kernel, by decide⟩
set_option maxRecDepth 100000 in
theorem c_X8_unitsByAccount (l : Launch) (g : zG) (ma : Nat → Nat) (M : MM) (A : Ab) (P Q : Int) (hA : mRep M A) (hk : okA P Q A) (hP : P ≤ 900000) (hQ : Q ≤ 9000000) : mInt l yX8_unitsByAccount cX8_unitsByAccount 1 (some .int) 7 [vR (ma 0)] g ma M (fun r M' => outP 0 A (unitsS A.1) A r M') := by
  refine mInt.mk (L0 := [some (vR (ma 0))]) (by decide) rfl (Nat.le_of_ble_eq_true rfl) rfl (fun C h hg hl hR X => ?_)
  subst hg hl
  refine z_aload_n (pc' := 1) X dX8_unitsByAccount_0 rfl rfl ?_
  refine z_V_int0 (pc' := 4) X rfl Y_X8_allUnits q2570 dX8_unitsByAccount_1 rfl (by decide) (Nat.le_refl _) (Nat.le_refl _) (Nat.le_of_ble_eq_true rfl) (c_X8_allUnits _ _ _ _ A P Q hA hk hP hQ) (fun r1 M1 hr1 hp1 hR1 => ?_)
  refine z_ireturn X dX8_unitsByAccount_4 (Nat.le_refl _) (Nat.le_refl _) (fun _ hh => ⟨_, hh, _, rfl, ?_, ?_⟩)
  · first | assumption | omega
  · exact hp1
end M15

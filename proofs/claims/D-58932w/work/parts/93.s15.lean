/-! THE STATE: sheetsFrom -/
section ZS15
theorem most_0 {S : St} {v m : Int} (hb : S.1 (117 + 3 * v) = 0 ∨ S.2.2.1.length = 12 ∨ ptsN S.1 v m < 30) : ∀ K : Nat, mostN S v m K = 0
  | 0 => rfl
  | K + 1 => by
    show (if 0 < whySS S v m ((K : Int) + 1) then mostN S v m K else (K : Int) + 1) = 0
    rw [if_pos, most_0 hb K]
    unfold whySS
    (repeat' split) <;> omega
theorem most_F {S : St} {v m : Int} (hU : 0 < S.1 (117 + 3 * v)) (hw : S.1 (126 + 3 * m + 1) ≤ 2000) (hp : S.2.2.1.length ≠ 12) (hg : 30 ≤ ptsN S.1 v m) : ∀ K : Nat, mostN S v m K = min (K : Int) (min (S.1 (117 + 3 * v) / mZ (m % 3)) (2000 - S.1 (126 + 3 * m + 1)))
  | 0 => by
    have hz := mZ_b (m % 3)
    have : 0 ≤ S.1 (117 + 3 * v) / mZ (m % 3) := Int.ediv_nonneg (by omega) (by omega)
    show (0 : Int) = _
    omega
  | K + 1 => by
    have hz := mZ_b (m % 3)
    have ih := most_F hU hw hp hg K
    have hle : (K : Int) + 1 ≤ S.1 (117 + 3 * v) / mZ (m % 3) ↔ ((K : Int) + 1) * mZ (m % 3) ≤ S.1 (117 + 3 * v) := Int.le_ediv_iff_mul_le (by omega)
    show (if 0 < whySS S v m ((K : Int) + 1) then mostN S v m K else (K : Int) + 1) = _
    rw [ih]
    unfold whySS
    rw [if_neg (show ¬ S.1 (117 + 3 * v) = 0 by omega)]
    by_cases c1 : S.1 (117 + 3 * v) < ((K : Int) + 1) * mZ (m % 3)
    · rw [if_pos c1, if_pos (by decide)]
      omega
    · rw [if_neg c1]
      by_cases c2 : 2000 < S.1 (126 + 3 * m + 1) + ((K : Int) + 1)
      · rw [if_pos c2, if_pos (by decide)]
        omega
      · rw [if_neg c2, if_neg hp, if_neg (by omega)]
        omega
theorem Y_X2_sheetsFrom : zYV yX2_sheetsFrom cX2_sheetsFrom 8 (some .int) 2 := ⟨⟨q1922, q1923, q113, q1924⟩, by decide +kernel, by decide⟩
set_option maxRecDepth 100000 in
theorem c_X2_sheetsFrom (l : Launch) (g : zG) (h : GH) (sh : Sh) (f : Int → Int) (rc : Nat) (Ls : Nat → ELs) (S : St) (w : rW g.2.2 h sh (f, rc, Ls)) (T : tie f Ls S) (hk : okY S) (v m : Int) (hv : 0 ≤ v ∧ v < 3) (hm : 0 ≤ m ∧ m < 5) : zPur l yX2_sheetsFrom cX2_sheetsFrom 8 (some .int) 8 [vR sh.1, vI v, vI m] g h (some (vI (mostN S v m 480))) := by
  refine zMet.mk (L0 := [some (vR sh.1), some (vI v), some (vI m), none, none, none, none, none]) (by decide) rfl (Nat.le_of_ble_eq_true rfl) rfl (fun C hg hl hnm X => ?_)
  subst hg hl
  have hX := w.start
  obtain ⟨T0, ⟨Tc, Tc2⟩, ⟨Tb, Tb1, Tb2⟩, ⟨Tv, Tv2⟩, ⟨Tm, Tm2⟩, ⟨Tp, Tp1, Tp2⟩, ⟨Tr, Tr1⟩, Ta, Tz⟩ := id T
  obtain ⟨⟨⟨kc1a, kc1b, kc1c, kc1d, kc1e⟩, kc2, kc3, kc4, kc5⟩, kb, kp, kq⟩ := id hk
  obtain ⟨Tl1, Tl4, Tl5⟩ := T.lens
  have z0 := T0 0 (by omega)
  have z1 := T0 1 (by omega)
  have z2 := T0 2 (by omega)
  have z3 := T0 3 (by omega)
  have hzz := mZ_b (m % 3)
  have hkv := kc4 v (by omega) (by omega)
  have hdv : 0 ≤ S.1 (117 + 3 * v) / mZ (m % 3) ∧ S.1 (117 + 3 * v) / mZ (m % 3) ≤ 8000 := ⟨Int.ediv_nonneg (by omega) (by omega), Int.le_trans (Int.ediv_le_self _ (by omega)) (by omega)⟩
  refine z_aload_n (pc' := 1) X dX2_sheetsFrom_0 rfl rfl ?_
  refine z_get1 (pc' := 4) (kf := 13) X in_X2 rfl (by decide) q238 (Or.inl rfl) hX.stA rfl dX2_sheetsFrom_1 rfl ?_
  refine z_iload_n (pc' := 5) X dX2_sheetsFrom_4 rfl rfl ?_
  obtain ⟨q1, e1, hk1⟩ := ELs.at (ps := Ls 2) (k := v) (by first | assumption | omega | exact bI_rng2 | (unfold rng; omega))
  have t1 := Tv2 _ _ _ hk1
  rw [Int.toNat_of_nonneg (by omega)] at t1
  have b1 := kc4 (v) (by omega) (by omega)
  refine z_rget (pc' := 10) X q549 hX (i := 2) (by decide) (j := v) hk1 (by first | assumption | omega | exact bI_rng2 | (unfold rng; omega)) dX2_sheetsFrom_5 rfl (by decide) (Nat.le_of_ble_eq_true rfl) (Nat.le_of_ble_eq_true rfl) (Nat.le_of_ble_eq_true rfl) (by show (Ls 2).length ≤ 1000; omega) ?_
  refine z_castS1 (pc' := 13) X (ci := 4) q380 rfl ⟨_, (hX.el2 hk1)⟩ dX2_sheetsFrom_10 rfl ?_
  refine z_astore_n (pc' := 14) X dX2_sheetsFrom_13 rfl (by decide) rfl ?_
  dsimp only [List.set]
  refine z_aload_n (pc' := 15) X dX2_sheetsFrom_14 rfl rfl ?_
  refine z_get1 (pc' := 18) (kf := 14) X in_X2 rfl (by decide) q240 (Or.inl rfl) hX.stA rfl dX2_sheetsFrom_15 rfl ?_
  refine z_iload_n (pc' := 19) X dX2_sheetsFrom_18 rfl rfl ?_
  obtain ⟨q2, e2, hk2⟩ := ELs.at (ps := Ls 3) (k := m) (by first | assumption | omega | exact bI_rng2 | (unfold rng; omega))
  have t2 := Tm2 _ _ _ hk2
  rw [Int.toNat_of_nonneg (by omega)] at t2
  have b2 := kc5 (m) (by omega) (by omega)
  refine z_rget (pc' := 24) X q549 hX (i := 3) (by decide) (j := m) hk2 (by first | assumption | omega | exact bI_rng2 | (unfold rng; omega)) dX2_sheetsFrom_19 rfl (by decide) (Nat.le_of_ble_eq_true rfl) (Nat.le_of_ble_eq_true rfl) (Nat.le_of_ble_eq_true rfl) (by show (Ls 3).length ≤ 1000; omega) ?_
  refine z_castS1 (pc' := 27) X (ci := 5) q402 rfl ⟨_, (hX.el3 hk2)⟩ dX2_sheetsFrom_24 rfl ?_
  refine z_astore (pc' := 29) X dX2_sheetsFrom_27 rfl (by decide) rfl ?_
  dsimp only [List.set]
  refine z_aload_n (pc' := 30) X dX2_sheetsFrom_29 rfl rfl ?_
  refine z_callV0 (pc' := 33) X Y_X5_isEmpty q1279 dX2_sheetsFrom_30 rfl (Nat.le_of_ble_eq_true rfl) (Nat.le_of_ble_eq_true rfl) (Nat.le_of_ble_eq_true rfl) rfl rfl (Nat.le_of_ble_eq_true rfl) rfl ⟨_, (hX.el2 hk1)⟩ (c_X5_isEmpty _ _ _ _ _ _ _ (hX.el2 hk1) (by first | assumption | omega | exact bI_rng2 | (unfold rng; omega))) ?_
  dsimp only [zst]
  refine z_if_ne (tgt := 62) (pc' := 36) X (by first | assumption | omega | exact bI_rng2 | (unfold rng; omega)) dX2_sheetsFrom_33 rfl (by decide) (fun c33 => ?_) (fun c33 => ?_)
  · refine z_iconst (pc' := 63) X dX2_sheetsFrom_62 rfl ?_
    refine z_iret1 X dX2_sheetsFrom_63 (Nat.le_of_ble_eq_true rfl) (Nat.le_of_ble_eq_true rfl) ?_
    refine ⟨?_, rfl⟩
    have := bI_n0 c33
    rw [most_0 (Or.inl (by omega))]
  · refine z_aload_n (pc' := 37) X dX2_sheetsFrom_36 rfl rfl ?_
    refine z_get1 (pc' := 40) (kf := 15) X in_X2 rfl (by decide) q242 (Or.inl rfl) hX.stA rfl dX2_sheetsFrom_37 rfl ?_
    refine z_rsize (pc' := 45) X q547 hX (i := 4) (by decide) dX2_sheetsFrom_40 rfl (by decide) (Nat.le_of_ble_eq_true rfl) (Nat.le_of_ble_eq_true rfl) (Nat.le_of_ble_eq_true rfl) ?_
    refine z_bipush (pc' := 47) X dX2_sheetsFrom_45 rfl (by decide) ?_
    refine z_icmp_eq (tgt := 62) (pc' := 50) X (by first | assumption | omega | exact bI_rng2 | (unfold rng; omega)) (by first | assumption | omega | exact bI_rng2 | (unfold rng; omega)) dX2_sheetsFrom_47 rfl (by decide) (fun c47 => ?_) (fun c47 => ?_)
    · refine z_iconst (pc' := 63) X dX2_sheetsFrom_62 rfl ?_
      refine z_iret1 X dX2_sheetsFrom_63 (Nat.le_of_ble_eq_true rfl) (Nat.le_of_ble_eq_true rfl) ?_
      refine ⟨?_, rfl⟩
      rw [most_0 (Or.inr (Or.inl (by omega)))]
    · refine z_aload_n (pc' := 51) X dX2_sheetsFrom_50 rfl rfl ?_
      refine z_iload_n (pc' := 52) X dX2_sheetsFrom_51 rfl rfl ?_
      refine z_iload_n (pc' := 53) X dX2_sheetsFrom_52 rfl rfl ?_
      refine z_callV0 (pc' := 56) X Y_X2_points q1340 dX2_sheetsFrom_53 rfl (Nat.le_of_ble_eq_true rfl) (Nat.le_of_ble_eq_true rfl) (Nat.le_of_ble_eq_true rfl) rfl rfl (Nat.le_of_ble_eq_true rfl) rfl ⟨_, hX.stA⟩ (c_X2_points _ _ _ sh (f) rc (Ls) S hX.1 T hk (v) (m) (by first | assumption | omega | exact bI_rng2 | (unfold rng; omega)) (by first | assumption | omega | exact bI_rng2 | (unfold rng; omega))) ?_
      dsimp only [zst]
      by_cases hg56 : 30 ≤ (ptsN S.1 (v) (m))
      · refine z_callS0 (pc' := 59) X Y_X11_with q1348 dX2_sheetsFrom_56 rfl (Nat.le_of_ble_eq_true rfl) (Nat.le_of_ble_eq_true rfl) (Nat.le_of_ble_eq_true rfl) rfl rfl (Nat.le_of_ble_eq_true rfl) (c_X11_with _ _ _ ((ptsN S.1 (v) (m))) (by have := ptsN_b hk hv hm; omega)) ?_
        dsimp only [zst]
        refine z_ifnonnull_T (tgt := 64) X dX2_sheetsFrom_59 (by decide) ?_
        refine z_aload_n (pc' := 65) X dX2_sheetsFrom_64 rfl rfl ?_
        refine z_get1 (pc' := 68) (kf := 0) X in_X5 rfl (by decide) q387 (Or.inl rfl) (hX.el2 hk1) rfl dX2_sheetsFrom_65 rfl ?_
        refine z_aload (pc' := 70) X dX2_sheetsFrom_68 rfl rfl ?_
        refine z_get1 (pc' := 73) (kf := 0) X in_X6 rfl (by decide) q418 (Or.inl rfl) (hX.el3 hk2) rfl dX2_sheetsFrom_70 rfl ?_
        refine z_szunits (z := e2.1) (pc' := 76) X q569 (by first | assumption | omega | exact bI_rng2 | (unfold rng; omega)) dX2_sheetsFrom_73 rfl (Nat.le_of_ble_eq_true rfl) (Nat.le_of_ble_eq_true rfl) (Nat.le_of_ble_eq_true rfl) (Nat.le_of_ble_eq_true rfl) ?_
        rw [show szU e2.1 = mZ (m % 3) by rw [t2.1, szU_mZ]]
        refine z_idivp (pc' := 77) X (by first | assumption | omega | exact bI_rng2 | (unfold rng; omega)) (by omega) dX2_sheetsFrom_76 rfl ?_
        rw [t1.1]
        refine z_istore (pc' := 79) X dX2_sheetsFrom_77 rfl (by decide) rfl ?_
        dsimp only [List.set]
        refine z_sipush (pc' := 82) X dX2_sheetsFrom_79 rfl (by decide) ?_
        refine z_aload (pc' := 84) X dX2_sheetsFrom_82 rfl rfl ?_
        refine z_get1 (pc' := 87) (kf := 2) X in_X6 rfl (by decide) q423 (Or.inl rfl) (hX.el3 hk2) rfl dX2_sheetsFrom_84 rfl ?_
        refine z_isub (pc' := 88) X dX2_sheetsFrom_87 rfl ?_
        refine z_istore (pc' := 90) X dX2_sheetsFrom_88 rfl (by decide) rfl ?_
        dsimp only [List.set]
        refine z_iload (pc' := 92) X dX2_sheetsFrom_90 rfl rfl ?_
        refine z_iload (pc' := 94) X dX2_sheetsFrom_92 rfl rfl ?_
        refine z_icmp_ge (tgt := 102) (pc' := 97) X (by first | assumption | omega | exact bI_rng2 | (unfold rng; omega)) (by first | assumption | omega | exact bI_rng2 | (unfold rng; omega)) dX2_sheetsFrom_94 rfl (by decide) (fun c94 => ?_) (fun c94 => ?_)
        · refine z_iload (pc' := 104) X dX2_sheetsFrom_102 rfl rfl ?_
          refine z_istore (pc' := 106) X dX2_sheetsFrom_104 rfl (by decide) rfl ?_
          dsimp only [List.set]
          refine z_iload (pc' := 108) X dX2_sheetsFrom_106 rfl rfl ?_
          refine z_sipush (pc' := 111) X dX2_sheetsFrom_108 rfl (by decide) ?_
          refine z_icmp_ge (tgt := 119) (pc' := 114) X (by first | assumption | omega | exact bI_rng2 | (unfold rng; omega)) (by first | assumption | omega | exact bI_rng2 | (unfold rng; omega)) dX2_sheetsFrom_111 rfl (by decide) (fun c111 => ?_) (fun c111 => ?_)
          · refine z_sipush (pc' := 122) X dX2_sheetsFrom_119 rfl (by decide) ?_
            refine z_iret1 X dX2_sheetsFrom_122 (Nat.le_of_ble_eq_true rfl) (Nat.le_of_ble_eq_true rfl) ?_
            refine ⟨?_, rfl⟩
            have := bI_e0 c33
            rw [most_F (by omega) (by omega) (by omega) (by omega)]
            congr 2
            omega
          · refine z_iload (pc' := 116) X dX2_sheetsFrom_114 rfl rfl ?_
            refine z_goto (tgt := 122) X dX2_sheetsFrom_116 (by decide) ?_
            refine z_iret1 X dX2_sheetsFrom_122 (Nat.le_of_ble_eq_true rfl) (Nat.le_of_ble_eq_true rfl) ?_
            refine ⟨?_, rfl⟩
            have := bI_e0 c33
            rw [most_F (by omega) (by omega) (by omega) (by omega)]
            congr 2
            omega
        · refine z_iload (pc' := 99) X dX2_sheetsFrom_97 rfl rfl ?_
          refine z_goto (tgt := 104) X dX2_sheetsFrom_99 (by decide) ?_
          refine z_istore (pc' := 106) X dX2_sheetsFrom_104 rfl (by decide) rfl ?_
          dsimp only [List.set]
          refine z_iload (pc' := 108) X dX2_sheetsFrom_106 rfl rfl ?_
          refine z_sipush (pc' := 111) X dX2_sheetsFrom_108 rfl (by decide) ?_
          refine z_icmp_ge (tgt := 119) (pc' := 114) X (by first | assumption | omega | exact bI_rng2 | (unfold rng; omega)) (by first | assumption | omega | exact bI_rng2 | (unfold rng; omega)) dX2_sheetsFrom_111 rfl (by decide) (fun c111 => ?_) (fun c111 => ?_)
          · refine z_sipush (pc' := 122) X dX2_sheetsFrom_119 rfl (by decide) ?_
            refine z_iret1 X dX2_sheetsFrom_122 (Nat.le_of_ble_eq_true rfl) (Nat.le_of_ble_eq_true rfl) ?_
            refine ⟨?_, rfl⟩
            have := bI_e0 c33
            rw [most_F (by omega) (by omega) (by omega) (by omega)]
            congr 2
            omega
          · refine z_iload (pc' := 116) X dX2_sheetsFrom_114 rfl rfl ?_
            refine z_goto (tgt := 122) X dX2_sheetsFrom_116 (by decide) ?_
            refine z_iret1 X dX2_sheetsFrom_122 (Nat.le_of_ble_eq_true rfl) (Nat.le_of_ble_eq_true rfl) ?_
            refine ⟨?_, rfl⟩
            have := bI_e0 c33
            rw [most_F (by omega) (by omega) (by omega) (by omega)]
            congr 2
            omega
      · refine z_callS0 (pc' := 59) X Y_X11_with q1348 dX2_sheetsFrom_56 rfl (Nat.le_of_ble_eq_true rfl) (Nat.le_of_ble_eq_true rfl) (Nat.le_of_ble_eq_true rfl) rfl rfl (Nat.le_of_ble_eq_true rfl) (c_X11_with_n _ _ _ ((ptsN S.1 (v) (m))) (by have := ptsN_b hk hv hm; omega)) ?_
        dsimp only [zst]
        refine z_ifnonnull_F (pc' := 62) X dX2_sheetsFrom_59 rfl ?_
        refine z_iconst (pc' := 63) X dX2_sheetsFrom_62 rfl ?_
        refine z_iret1 X dX2_sheetsFrom_63 (Nat.le_of_ble_eq_true rfl) (Nat.le_of_ble_eq_true rfl) ?_
        refine ⟨?_, rfl⟩
        rw [most_0 (Or.inr (Or.inr (by omega)))]
end ZS15

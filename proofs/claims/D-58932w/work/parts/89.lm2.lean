/-! REASONS: their bodies, their objects, the first that holds -/
section ZLAM7
set_option maxRecDepth 100000 in
theorem b_X2_lambda_whyNotIn_0 (l : Launch) (g : zG) (h : GH) (sh : Sh) (f : Int → Int) (rc : Nat) (Ls : Nat → ELs) (S : St) (w : rW g.2.2 h sh (f, rc, Ls)) (T : tie f Ls S) (hk : okY S)  : zBod l "PaperMill$State" cX2_lambda_whyNotIn_0 1 (some .boolean) 6 0 0 [vR sh.1] g h (fun v' h' => v' = some (vI (bI (S.2.1.length = 24))) ∧ h' = h) := by
  intro C hg hl X
  show ZP C 1 (zAt h) 0 0 [some (vR sh.1)] 0 []
  subst hg hl
  have hX := w.start
  obtain ⟨T0, ⟨Tc, Tc2⟩, ⟨Tb, Tb1, Tb2⟩, ⟨Tv, Tv2⟩, ⟨Tm, Tm2⟩, ⟨Tp, Tp1, Tp2⟩, ⟨Tr, Tr1⟩, Ta, Tz⟩ := id T
  obtain ⟨⟨⟨kc1a, kc1b, kc1c, kc1d, kc1e⟩, kc2, kc3, kc4, kc5⟩, kb, kp, kq⟩ := id hk
  obtain ⟨Tl1, Tl4, Tl5⟩ := T.lens
  have z0 := T0 0 (by omega)
  have z1 := T0 1 (by omega)
  have z2 := T0 2 (by omega)
  have z3 := T0 3 (by omega)
  refine z_aload_n (pc' := 1) X dX2_lambda_whyNotIn_0_0 rfl rfl ?_
  refine z_get1 (pc' := 4) (kf := 12) X in_X2 rfl (by decide) q236 (Or.inl rfl) hX.stA rfl dX2_lambda_whyNotIn_0_1 rfl ?_
  refine z_rsize (pc' := 9) X q547 hX (i := 1) (by decide) dX2_lambda_whyNotIn_0_4 rfl (by decide) (Nat.le_of_ble_eq_true rfl) (Nat.le_of_ble_eq_true rfl) (Nat.le_of_ble_eq_true rfl) ?_
  refine z_bipush (pc' := 11) X dX2_lambda_whyNotIn_0_9 rfl (by decide) ?_
  refine z_icmp_ne (tgt := 18) (pc' := 14) X (by first | assumption | omega | exact bI_rng2) (by first | assumption | omega | exact bI_rng2) dX2_lambda_whyNotIn_0_11 rfl (by decide) (fun c11 => ?_) (fun c11 => ?_)
  · refine z_iconst (pc' := 19) X dX2_lambda_whyNotIn_0_18 rfl ?_
    refine z_zret1 X dX2_lambda_whyNotIn_0_19 (by first | exact nar_0 | exact nar_1 | exact nar_bI _ | exact nar_b (by omega)) (Nat.le_of_ble_eq_true rfl) (Nat.le_of_ble_eq_true rfl) ?_
    exact ⟨by rw [bI_f (by omega)], rfl⟩
  · refine z_iconst (pc' := 15) X dX2_lambda_whyNotIn_0_14 rfl ?_
    refine z_goto (tgt := 19) X dX2_lambda_whyNotIn_0_15 (by decide) ?_
    refine z_zret1 X dX2_lambda_whyNotIn_0_19 (by first | exact nar_0 | exact nar_1 | exact nar_bI _ | exact nar_b (by omega)) (Nat.le_of_ble_eq_true rfl) (Nat.le_of_ble_eq_true rfl) ?_
    exact ⟨by rw [bI_t (by omega)], rfl⟩
set_option maxRecDepth 100000 in
theorem b_X2_lambda_whyNotIn_1 (l : Launch) (g : zG) (h : GH) (sh : Sh) (f : Int → Int) (rc : Nat) (Ls : Nat → ELs) (S : St) (w : rW g.2.2 h sh (f, rc, Ls)) (T : tie f Ls S) (hk : okY S) (z : Int) (hz : 0 ≤ z ∧ z ≤ 1000) : zBod l "PaperMill$State" cX2_lambda_whyNotIn_1 2 (some .boolean) 1 0 0 [vR sh.1, vI z] g h (fun v' h' => v' = some (vI (bI (S.1 3 < z))) ∧ h' = h) := by
  intro C hg hl X
  show ZP C 2 (zAt h) 0 0 [some (vR sh.1), some (vI z)] 0 []
  subst hg hl
  have hX := w.start
  obtain ⟨T0, ⟨Tc, Tc2⟩, ⟨Tb, Tb1, Tb2⟩, ⟨Tv, Tv2⟩, ⟨Tm, Tm2⟩, ⟨Tp, Tp1, Tp2⟩, ⟨Tr, Tr1⟩, Ta, Tz⟩ := id T
  obtain ⟨⟨⟨kc1a, kc1b, kc1c, kc1d, kc1e⟩, kc2, kc3, kc4, kc5⟩, kb, kp, kq⟩ := id hk
  obtain ⟨Tl1, Tl4, Tl5⟩ := T.lens
  have z0 := T0 0 (by omega)
  have z1 := T0 1 (by omega)
  have z2 := T0 2 (by omega)
  have z3 := T0 3 (by omega)
  refine z_iload_n (pc' := 1) X dX2_lambda_whyNotIn_1_0 rfl rfl ?_
  refine z_aload_n (pc' := 2) X dX2_lambda_whyNotIn_1_1 rfl rfl ?_
  refine z_get1 (pc' := 5) (kf := 2) X in_X2 rfl (by decide) q216 (Or.inl rfl) hX.stA rfl dX2_lambda_whyNotIn_1_2 rfl ?_
  refine z_icmp_le (tgt := 12) (pc' := 8) X (by first | assumption | omega | exact bI_rng2) (by first | assumption | omega | exact bI_rng2) dX2_lambda_whyNotIn_1_5 rfl (by decide) (fun c5 => ?_) (fun c5 => ?_)
  · refine z_iconst (pc' := 13) X dX2_lambda_whyNotIn_1_12 rfl ?_
    refine z_zret1 X dX2_lambda_whyNotIn_1_13 (by first | exact nar_0 | exact nar_1 | exact nar_bI _ | exact nar_b (by omega)) (Nat.le_of_ble_eq_true rfl) (Nat.le_of_ble_eq_true rfl) ?_
    exact ⟨by rw [bI_f (by omega)], rfl⟩
  · refine z_iconst (pc' := 9) X dX2_lambda_whyNotIn_1_8 rfl ?_
    refine z_goto (tgt := 13) X dX2_lambda_whyNotIn_1_9 (by decide) ?_
    refine z_zret1 X dX2_lambda_whyNotIn_1_13 (by first | exact nar_0 | exact nar_1 | exact nar_bI _ | exact nar_b (by omega)) (Nat.le_of_ble_eq_true rfl) (Nat.le_of_ble_eq_true rfl) ?_
    exact ⟨by rw [bI_t (by omega)], rfl⟩
set_option maxRecDepth 100000 in
theorem b_X2_lambda_whyNotIn_2 (l : Launch) (g : zG) (h : GH) (sh : Sh) (f : Int → Int) (rc : Nat) (Ls : Nat → ELs) (S : St) (w : rW g.2.2 h sh (f, rc, Ls)) (T : tie f Ls S) (hk : okY S) (c x : Int) (hc : 0 ≤ c ∧ c < 4) (hx : 0 ≤ x ∧ x ≤ 1000) : zBod l "PaperMill$State" cX2_lambda_whyNotIn_2 3 (some .boolean) 9 0 0 [vR sh.1, vI c, vI x] g h (fun v' h' => v' = some (vI (bI (300 < S.1 (13 + 2 * c) + tollS S c x))) ∧ h' = h) := by
  intro C hg hl X
  show ZP C 3 (zAt h) 0 0 [some (vR sh.1), some (vI c), some (vI x)] 0 []
  subst hg hl
  have hX := w.start
  obtain ⟨T0, ⟨Tc, Tc2⟩, ⟨Tb, Tb1, Tb2⟩, ⟨Tv, Tv2⟩, ⟨Tm, Tm2⟩, ⟨Tp, Tp1, Tp2⟩, ⟨Tr, Tr1⟩, Ta, Tz⟩ := id T
  obtain ⟨⟨⟨kc1a, kc1b, kc1c, kc1d, kc1e⟩, kc2, kc3, kc4, kc5⟩, kb, kp, kq⟩ := id hk
  obtain ⟨Tl1, Tl4, Tl5⟩ := T.lens
  have z0 := T0 0 (by omega)
  have z1 := T0 1 (by omega)
  have z2 := T0 2 (by omega)
  have z3 := T0 3 (by omega)
  have htl : 0 ≤ tollS S c x ∧ tollS S c x ≤ 10000 := by unfold tollS; split <;> omega
  refine z_aload_n (pc' := 1) X dX2_lambda_whyNotIn_2_0 rfl rfl ?_
  refine z_iload_n (pc' := 2) X dX2_lambda_whyNotIn_2_1 rfl rfl ?_
  refine z_aload_n (pc' := 3) X dX2_lambda_whyNotIn_2_2 rfl rfl ?_
  refine z_iload_n (pc' := 4) X dX2_lambda_whyNotIn_2_3 rfl rfl ?_
  refine z_iload_n (pc' := 5) X dX2_lambda_whyNotIn_2_4 rfl rfl ?_
  refine z_callV0 (pc' := 8) X Y_X2_toll q1245 dX2_lambda_whyNotIn_2_5 rfl (Nat.le_of_ble_eq_true rfl) (Nat.le_of_ble_eq_true rfl) (Nat.le_of_ble_eq_true rfl) rfl rfl (Nat.le_of_ble_eq_true rfl) rfl ⟨_, hX.stA⟩ (c_X2_toll _ _ _ sh (f) rc (Ls) S hX.1 T hk (c) (x) (by first | assumption | omega | exact bI_rng2) (by first | assumption | omega | exact bI_rng2)) ?_
  dsimp only [zst]
  refine z_callV0 (pc' := 11) X Y_X2_canOwe q1253 dX2_lambda_whyNotIn_2_8 rfl (Nat.le_of_ble_eq_true rfl) (Nat.le_of_ble_eq_true rfl) (Nat.le_of_ble_eq_true rfl) rfl rfl (Nat.le_of_ble_eq_true rfl) rfl ⟨_, hX.stA⟩ (c_X2_canOwe _ _ _ sh (f) rc (Ls) S hX.1 T hk (c) ((tollS S (c) (x))) (by first | assumption | omega | exact bI_rng2) (by first | assumption | omega | exact bI_rng2)) ?_
  dsimp only [zst]
  refine z_if_ne (tgt := 18) (pc' := 14) X (by first | assumption | omega | exact bI_rng2) dX2_lambda_whyNotIn_2_11 rfl (by decide) (fun c11 => ?_) (fun c11 => ?_)
  · refine z_iconst (pc' := 19) X dX2_lambda_whyNotIn_2_18 rfl ?_
    refine z_zret1 X dX2_lambda_whyNotIn_2_19 (by first | exact nar_0 | exact nar_1 | exact nar_bI _ | exact nar_b (by omega)) (Nat.le_of_ble_eq_true rfl) (Nat.le_of_ble_eq_true rfl) ?_
    exact ⟨by rw [bI_f (by have := bI_n0 c11; omega)], rfl⟩
  · refine z_iconst (pc' := 15) X dX2_lambda_whyNotIn_2_14 rfl ?_
    refine z_goto (tgt := 19) X dX2_lambda_whyNotIn_2_15 (by decide) ?_
    refine z_zret1 X dX2_lambda_whyNotIn_2_19 (by first | exact nar_0 | exact nar_1 | exact nar_bI _ | exact nar_b (by omega)) (Nat.le_of_ble_eq_true rfl) (Nat.le_of_ble_eq_true rfl) ?_
    exact ⟨by rw [bI_t (by have := bI_e0 c11; omega)], rfl⟩
set_option maxRecDepth 100000 in
theorem b_X2_lambda_whyNotMade_3 (l : Launch) (g : zG) (h : GH) (q : Nat) (u hr sg : Int) (hv : h q = some (zO 4 [vI u, vI hr, vI sg])) (hu : 0 ≤ u ∧ u ≤ 8000) : zBod l "PaperMill$State" cX2_lambda_whyNotMade_3 1 (some .boolean) 2 0 0 [vR q] g h (fun v' h' => v' = some (vI (bI (u = 0))) ∧ h' = h) := by
  intro C hg hl X
  show ZP C 1 (zAt h) 0 0 [some (vR q)] 0 []
  subst hg hl
  refine z_aload_n (pc' := 1) X dX2_lambda_whyNotMade_3_0 rfl rfl ?_
  refine z_callV0 (pc' := 4) X Y_X5_isEmpty q1279 dX2_lambda_whyNotMade_3_1 rfl (Nat.le_of_ble_eq_true rfl) (Nat.le_of_ble_eq_true rfl) (Nat.le_of_ble_eq_true rfl) rfl rfl (Nat.le_of_ble_eq_true rfl) rfl ⟨_, hv⟩ (c_X5_isEmpty _ _ _ _ _ _ _ hv (by first | assumption | omega | exact bI_rng2)) ?_
  dsimp only [zst]
  refine z_zret1 X dX2_lambda_whyNotMade_3_4 (by first | exact nar_0 | exact nar_1 | exact nar_bI _ | exact nar_b (by omega)) (Nat.le_of_ble_eq_true rfl) (Nat.le_of_ble_eq_true rfl) ?_
  exact ⟨rfl, rfl⟩
set_option maxRecDepth 100000 in
theorem b_X2_lambda_whyNotMade_4 (l : Launch) (g : zG) (h : GH) (q qm : Nat) (u hr sg z mk wr rs : Int) (t : Int) (hv : h q = some (zO 4 [vI u, vI hr, vI sg])) (hm : h qm = some (zO 5 [vR (g.2.2 z.toNat), vI mk, vI wr, vI rs])) (hu : 0 ≤ u ∧ u ≤ 8000) (hz : 0 ≤ z ∧ z ≤ 2) (ht : 0 ≤ t ∧ t ≤ 480) : zBod l "PaperMill$State" cX2_lambda_whyNotMade_4 3 (some .boolean) 2 0 0 [vI t, vR qm, vR q] g h (fun v' h' => v' = some (vI (bI (u < t * szU z))) ∧ h' = h) := by
  intro C hg hl X
  show ZP C 3 (zAt h) 0 0 [some (vI t), some (vR qm), some (vR q)] 0 []
  subst hg hl
  have hsz : 1 ≤ szU z ∧ szU z ≤ 4 := by unfold szU; (repeat' split) <;> omega
  have hpr := mulb (a := t) (b := szU z) (A := 480) (B := 4) ht (by omega)
  refine z_iload_n (pc' := 1) X dX2_lambda_whyNotMade_4_0 rfl rfl ?_
  refine z_aload_n (pc' := 2) X dX2_lambda_whyNotMade_4_1 rfl rfl ?_
  refine z_get1 (pc' := 5) (kf := 0) X in_X6 rfl (by decide) q418 (Or.inl rfl) hm rfl dX2_lambda_whyNotMade_4_2 rfl ?_
  refine z_szunits (z := z) (pc' := 8) X q569 (by first | assumption | omega | exact bI_rng2) dX2_lambda_whyNotMade_4_5 rfl (Nat.le_of_ble_eq_true rfl) (Nat.le_of_ble_eq_true rfl) (Nat.le_of_ble_eq_true rfl) (Nat.le_of_ble_eq_true rfl) ?_
  refine z_imul (pc' := 9) X dX2_lambda_whyNotMade_4_8 rfl ?_
  refine z_aload_n (pc' := 10) X dX2_lambda_whyNotMade_4_9 rfl rfl ?_
  refine z_get1 (pc' := 13) (kf := 0) X in_X5 rfl (by decide) q387 (Or.inl rfl) hv rfl dX2_lambda_whyNotMade_4_10 rfl ?_
  refine z_icmp_le (tgt := 20) (pc' := 16) X (by first | assumption | omega | exact bI_rng2) (by first | assumption | omega | exact bI_rng2) dX2_lambda_whyNotMade_4_13 rfl (by decide) (fun c13 => ?_) (fun c13 => ?_)
  · refine z_iconst (pc' := 21) X dX2_lambda_whyNotMade_4_20 rfl ?_
    refine z_zret1 X dX2_lambda_whyNotMade_4_21 (by first | exact nar_0 | exact nar_1 | exact nar_bI _ | exact nar_b (by omega)) (Nat.le_of_ble_eq_true rfl) (Nat.le_of_ble_eq_true rfl) ?_
    exact ⟨by rw [bI_f (by omega)], rfl⟩
  · refine z_iconst (pc' := 17) X dX2_lambda_whyNotMade_4_16 rfl ?_
    refine z_goto (tgt := 21) X dX2_lambda_whyNotMade_4_17 (by decide) ?_
    refine z_zret1 X dX2_lambda_whyNotMade_4_21 (by first | exact nar_0 | exact nar_1 | exact nar_bI _ | exact nar_b (by omega)) (Nat.le_of_ble_eq_true rfl) (Nat.le_of_ble_eq_true rfl) ?_
    exact ⟨by rw [bI_t (by omega)], rfl⟩
set_option maxRecDepth 100000 in
theorem b_X2_lambda_whyNotMade_5 (l : Launch) (g : zG) (h : GH) (qm : Nat) (z mk wr rs : Int) (t : Int) (hm : h qm = some (zO 5 [vR (g.2.2 z.toNat), vI mk, vI wr, vI rs])) (hw : 0 ≤ wr ∧ wr ≤ 2000) (ht : 0 ≤ t ∧ t ≤ 480) : zBod l "PaperMill$State" cX2_lambda_whyNotMade_5 2 (some .boolean) 1 0 0 [vR qm, vI t] g h (fun v' h' => v' = some (vI (bI (2000 < wr + t))) ∧ h' = h) := by
  intro C hg hl X
  show ZP C 2 (zAt h) 0 0 [some (vR qm), some (vI t)] 0 []
  subst hg hl
  refine z_aload_n (pc' := 1) X dX2_lambda_whyNotMade_5_0 rfl rfl ?_
  refine z_get1 (pc' := 4) (kf := 2) X in_X6 rfl (by decide) q423 (Or.inl rfl) hm rfl dX2_lambda_whyNotMade_5_1 rfl ?_
  refine z_iload_n (pc' := 5) X dX2_lambda_whyNotMade_5_4 rfl rfl ?_
  refine z_iadd (pc' := 6) X dX2_lambda_whyNotMade_5_5 rfl ?_
  refine z_sipush (pc' := 9) X dX2_lambda_whyNotMade_5_6 rfl (by decide) ?_
  refine z_icmp_le (tgt := 16) (pc' := 12) X (by first | assumption | omega | exact bI_rng2) (by first | assumption | omega | exact bI_rng2) dX2_lambda_whyNotMade_5_9 rfl (by decide) (fun c9 => ?_) (fun c9 => ?_)
  · refine z_iconst (pc' := 17) X dX2_lambda_whyNotMade_5_16 rfl ?_
    refine z_zret1 X dX2_lambda_whyNotMade_5_17 (by first | exact nar_0 | exact nar_1 | exact nar_bI _ | exact nar_b (by omega)) (Nat.le_of_ble_eq_true rfl) (Nat.le_of_ble_eq_true rfl) ?_
    exact ⟨by rw [bI_f (by omega)], rfl⟩
  · refine z_iconst (pc' := 13) X dX2_lambda_whyNotMade_5_12 rfl ?_
    refine z_goto (tgt := 17) X dX2_lambda_whyNotMade_5_13 (by decide) ?_
    refine z_zret1 X dX2_lambda_whyNotMade_5_17 (by first | exact nar_0 | exact nar_1 | exact nar_bI _ | exact nar_b (by omega)) (Nat.le_of_ble_eq_true rfl) (Nat.le_of_ble_eq_true rfl) ?_
    exact ⟨by rw [bI_t (by omega)], rfl⟩
set_option maxRecDepth 100000 in
theorem b_X2_lambda_whyNotMade_6 (l : Launch) (g : zG) (h : GH) (sh : Sh) (f : Int → Int) (rc : Nat) (Ls : Nat → ELs) (S : St) (w : rW g.2.2 h sh (f, rc, Ls)) (T : tie f Ls S) (hk : okY S)  : zBod l "PaperMill$State" cX2_lambda_whyNotMade_6 1 (some .boolean) 6 0 0 [vR sh.1] g h (fun v' h' => v' = some (vI (bI (S.2.2.1.length = 12))) ∧ h' = h) := by
  intro C hg hl X
  show ZP C 1 (zAt h) 0 0 [some (vR sh.1)] 0 []
  subst hg hl
  have hX := w.start
  obtain ⟨T0, ⟨Tc, Tc2⟩, ⟨Tb, Tb1, Tb2⟩, ⟨Tv, Tv2⟩, ⟨Tm, Tm2⟩, ⟨Tp, Tp1, Tp2⟩, ⟨Tr, Tr1⟩, Ta, Tz⟩ := id T
  obtain ⟨⟨⟨kc1a, kc1b, kc1c, kc1d, kc1e⟩, kc2, kc3, kc4, kc5⟩, kb, kp, kq⟩ := id hk
  obtain ⟨Tl1, Tl4, Tl5⟩ := T.lens
  have z0 := T0 0 (by omega)
  have z1 := T0 1 (by omega)
  have z2 := T0 2 (by omega)
  have z3 := T0 3 (by omega)
  refine z_aload_n (pc' := 1) X dX2_lambda_whyNotMade_6_0 rfl rfl ?_
  refine z_get1 (pc' := 4) (kf := 15) X in_X2 rfl (by decide) q242 (Or.inl rfl) hX.stA rfl dX2_lambda_whyNotMade_6_1 rfl ?_
  refine z_rsize (pc' := 9) X q547 hX (i := 4) (by decide) dX2_lambda_whyNotMade_6_4 rfl (by decide) (Nat.le_of_ble_eq_true rfl) (Nat.le_of_ble_eq_true rfl) (Nat.le_of_ble_eq_true rfl) ?_
  refine z_bipush (pc' := 11) X dX2_lambda_whyNotMade_6_9 rfl (by decide) ?_
  refine z_icmp_ne (tgt := 18) (pc' := 14) X (by first | assumption | omega | exact bI_rng2) (by first | assumption | omega | exact bI_rng2) dX2_lambda_whyNotMade_6_11 rfl (by decide) (fun c11 => ?_) (fun c11 => ?_)
  · refine z_iconst (pc' := 19) X dX2_lambda_whyNotMade_6_18 rfl ?_
    refine z_zret1 X dX2_lambda_whyNotMade_6_19 (by first | exact nar_0 | exact nar_1 | exact nar_bI _ | exact nar_b (by omega)) (Nat.le_of_ble_eq_true rfl) (Nat.le_of_ble_eq_true rfl) ?_
    exact ⟨by rw [bI_f (by omega)], rfl⟩
  · refine z_iconst (pc' := 15) X dX2_lambda_whyNotMade_6_14 rfl ?_
    refine z_goto (tgt := 19) X dX2_lambda_whyNotMade_6_15 (by decide) ?_
    refine z_zret1 X dX2_lambda_whyNotMade_6_19 (by first | exact nar_0 | exact nar_1 | exact nar_bI _ | exact nar_b (by omega)) (Nat.le_of_ble_eq_true rfl) (Nat.le_of_ble_eq_true rfl) ?_
    exact ⟨by rw [bI_t (by omega)], rfl⟩
theorem ptsN_b {S : St} (hk : okY S) {v m : Int} (hv : 0 ≤ v ∧ v < 3) (hm : 0 ≤ m ∧ m < 5) : -100 ≤ ptsN S.1 v m ∧ ptsN S.1 v m ≤ 200 := by
  have a := hk.1.2.2.2.1 v (by omega) (by omega)
  have b := hk.1.2.2.2.2 m (by omega) (by omega)
  unfold ptsN
  split <;> omega
set_option maxRecDepth 100000 in
theorem b_X2_lambda_whyNotMade_7 (l : Launch) (g : zG) (h : GH) (sh : Sh) (f : Int → Int) (rc : Nat) (Ls : Nat → ELs) (S : St) (w : rW g.2.2 h sh (f, rc, Ls)) (T : tie f Ls S) (hk : okY S) (v m : Int) (hv : 0 ≤ v ∧ v < 3) (hm : 0 ≤ m ∧ m < 5) : zBod l "PaperMill$State" cX2_lambda_whyNotMade_7 3 (some .boolean) 7 0 0 [vR sh.1, vI v, vI m] g h (fun v' h' => v' = some (vI (bI (ptsN S.1 v m < 30))) ∧ h' = h) := by
  intro C hg hl X
  show ZP C 3 (zAt h) 0 0 [some (vR sh.1), some (vI v), some (vI m)] 0 []
  subst hg hl
  have hX := w.start
  obtain ⟨T0, ⟨Tc, Tc2⟩, ⟨Tb, Tb1, Tb2⟩, ⟨Tv, Tv2⟩, ⟨Tm, Tm2⟩, ⟨Tp, Tp1, Tp2⟩, ⟨Tr, Tr1⟩, Ta, Tz⟩ := id T
  obtain ⟨⟨⟨kc1a, kc1b, kc1c, kc1d, kc1e⟩, kc2, kc3, kc4, kc5⟩, kb, kp, kq⟩ := id hk
  obtain ⟨Tl1, Tl4, Tl5⟩ := T.lens
  have z0 := T0 0 (by omega)
  have z1 := T0 1 (by omega)
  have z2 := T0 2 (by omega)
  have z3 := T0 3 (by omega)
  refine z_aload_n (pc' := 1) X dX2_lambda_whyNotMade_7_0 rfl rfl ?_
  refine z_iload_n (pc' := 2) X dX2_lambda_whyNotMade_7_1 rfl rfl ?_
  refine z_iload_n (pc' := 3) X dX2_lambda_whyNotMade_7_2 rfl rfl ?_
  refine z_callV0 (pc' := 6) X Y_X2_points q1340 dX2_lambda_whyNotMade_7_3 rfl (Nat.le_of_ble_eq_true rfl) (Nat.le_of_ble_eq_true rfl) (Nat.le_of_ble_eq_true rfl) rfl rfl (Nat.le_of_ble_eq_true rfl) rfl ⟨_, hX.stA⟩ (c_X2_points _ _ _ sh (f) rc (Ls) S hX.1 T hk (v) (m) (by first | assumption | omega | exact bI_rng2) (by first | assumption | omega | exact bI_rng2)) ?_
  dsimp only [zst]
  by_cases hg6 : 30 ≤ (ptsN S.1 (v) (m))
  · refine z_callS0 (pc' := 9) X Y_X11_with q1348 dX2_lambda_whyNotMade_7_6 rfl (Nat.le_of_ble_eq_true rfl) (Nat.le_of_ble_eq_true rfl) (Nat.le_of_ble_eq_true rfl) rfl rfl (Nat.le_of_ble_eq_true rfl) (c_X11_with _ _ _ ((ptsN S.1 (v) (m))) (by have := ptsN_b hk hv hm; omega)) ?_
    dsimp only [zst]
    refine z_ifnonnull_T (tgt := 16) X dX2_lambda_whyNotMade_7_9 (by decide) ?_
    refine z_iconst (pc' := 17) X dX2_lambda_whyNotMade_7_16 rfl ?_
    refine z_zret1 X dX2_lambda_whyNotMade_7_17 (by first | exact nar_0 | exact nar_1 | exact nar_bI _ | exact nar_b (by omega)) (Nat.le_of_ble_eq_true rfl) (Nat.le_of_ble_eq_true rfl) ?_
    exact ⟨by rw [bI_f (by omega)], rfl⟩
  · refine z_callS0 (pc' := 9) X Y_X11_with q1348 dX2_lambda_whyNotMade_7_6 rfl (Nat.le_of_ble_eq_true rfl) (Nat.le_of_ble_eq_true rfl) (Nat.le_of_ble_eq_true rfl) rfl rfl (Nat.le_of_ble_eq_true rfl) (c_X11_with_n _ _ _ ((ptsN S.1 (v) (m))) (by have := ptsN_b hk hv hm; omega)) ?_
    dsimp only [zst]
    refine z_ifnonnull_F (pc' := 12) X dX2_lambda_whyNotMade_7_9 rfl ?_
    refine z_iconst (pc' := 13) X dX2_lambda_whyNotMade_7_12 rfl ?_
    refine z_goto (tgt := 17) X dX2_lambda_whyNotMade_7_13 (by decide) ?_
    refine z_zret1 X dX2_lambda_whyNotMade_7_17 (by first | exact nar_0 | exact nar_1 | exact nar_bI _ | exact nar_b (by omega)) (Nat.le_of_ble_eq_true rfl) (Nat.le_of_ble_eq_true rfl) ?_
    exact ⟨by rw [bI_t (by omega)], rfl⟩
theorem lamL2 (l : Launch) (g : zG) (h : GH) (dd a : Nat) (hd9 : 7 ≤ dd) (sh : Sh) (f : Int → Int) (rc : Nat) (Ls : Nat → ELs) (S : St) (w : rW g.2.2 h sh (f, rc, Ls)) (T : tie f Ls S) (hk : okY S)  (hh : h a = some (zLm 2 [vR sh.1])) (hX9 : h sh.1 = some (zO 1 (stF sh f rc))) : zLam l 2 lamB2 1 dd 0 0 a [] g h (fun v' h' => v' = some (vI (bI (S.2.1.length = 24))) ∧ h' = h) := by
  intro C hg hl hm X
  subst hg hl
  refine zf_aload (i := 0) X lamd2_0 rfl rfl ?_
  refine zf_get X hm lams2 lamok2 (j := 0) (by decide) hh rfl lamd2_1 ?_
  refine zf_callV X hm lams2 lamok2 (y := yX2_lambda_whyNotIn_0) (vs := []) (st := []) rfl (by decide) (by decide) q1237 q1238 qs21 rfl (ci := 1) rfl (by exact ⟨_, hX9⟩) (N := 0) (by decide +kernel) lamd2_4 rfl (by decide) hd9 (by omega) (by omega) rfl (Nat.le_of_ble_eq_true rfl) rfl (Nat.le_of_ble_eq_true rfl) (b_X2_lambda_whyNotIn_0 _ _ _ sh f rc Ls S w T hk) (fun v9 h9 hp => ?_)
  obtain ⟨ev, hp2⟩ := hp
  subst ev
  dsimp only [zst]
  exact zf_zret X lamd2_7 (nar_bI _) (by omega) (by omega) ⟨rfl, hp2⟩
theorem lamL3 (l : Launch) (g : zG) (h : GH) (dd a : Nat) (hd9 : 2 ≤ dd) (sh : Sh) (f : Int → Int) (rc : Nat) (Ls : Nat → ELs) (S : St) (w : rW g.2.2 h sh (f, rc, Ls)) (T : tie f Ls S) (hk : okY S) (z : Int) (hz : 0 ≤ z ∧ z ≤ 1000) (hh : h a = some (zLm 3 [vR sh.1, vI z])) (hX9 : h sh.1 = some (zO 1 (stF sh f rc))) : zLam l 3 lamB3 1 dd 0 0 a [] g h (fun v' h' => v' = some (vI (bI (S.1 3 < z))) ∧ h' = h) := by
  intro C hg hl hm X
  subst hg hl
  refine zf_aload (i := 0) X lamd3_0 rfl rfl ?_
  refine zf_get X hm lams3 lamok3 (j := 0) (by decide) hh rfl lamd3_1 ?_
  refine zf_aload (i := 0) X lamd3_4 rfl rfl ?_
  refine zf_get X hm lams3 lamok3 (j := 1) (by decide) hh rfl lamd3_5 ?_
  refine zf_callV X hm lams3 lamok3 (y := yX2_lambda_whyNotIn_1) (vs := [vI z]) (st := []) rfl (by decide) (by decide) q1240 q1241 qs22 rfl (ci := 1) rfl (by exact ⟨_, hX9⟩) (N := 1) (by decide +kernel) lamd3_8 rfl (by decide) hd9 (by omega) (by omega) rfl (Nat.le_of_ble_eq_true rfl) rfl (Nat.le_of_ble_eq_true rfl) (b_X2_lambda_whyNotIn_1 _ _ _ sh f rc Ls S w T hk z hz) (fun v9 h9 hp => ?_)
  obtain ⟨ev, hp2⟩ := hp
  subst ev
  dsimp only [zst]
  exact zf_zret X lamd3_11 (nar_bI _) (by omega) (by omega) ⟨rfl, hp2⟩
theorem lamL4 (l : Launch) (g : zG) (h : GH) (dd a : Nat) (hd9 : 10 ≤ dd) (sh : Sh) (f : Int → Int) (rc : Nat) (Ls : Nat → ELs) (S : St) (w : rW g.2.2 h sh (f, rc, Ls)) (T : tie f Ls S) (hk : okY S) (c x : Int) (hc : 0 ≤ c ∧ c < 4) (hx : 0 ≤ x ∧ x ≤ 1000) (hh : h a = some (zLm 4 [vR sh.1, vI c, vI x])) (hX9 : h sh.1 = some (zO 1 (stF sh f rc))) : zLam l 4 lamB4 1 dd 0 0 a [] g h (fun v' h' => v' = some (vI (bI (300 < S.1 (13 + 2 * c) + tollS S c x))) ∧ h' = h) := by
  intro C hg hl hm X
  subst hg hl
  refine zf_aload (i := 0) X lamd4_0 rfl rfl ?_
  refine zf_get X hm lams4 lamok4 (j := 0) (by decide) hh rfl lamd4_1 ?_
  refine zf_aload (i := 0) X lamd4_4 rfl rfl ?_
  refine zf_get X hm lams4 lamok4 (j := 1) (by decide) hh rfl lamd4_5 ?_
  refine zf_aload (i := 0) X lamd4_8 rfl rfl ?_
  refine zf_get X hm lams4 lamok4 (j := 2) (by decide) hh rfl lamd4_9 ?_
  refine zf_callV X hm lams4 lamok4 (y := yX2_lambda_whyNotIn_2) (vs := [vI c, vI x]) (st := []) rfl (by decide) (by decide) q1243 q1244 qs23 rfl (ci := 1) rfl (by exact ⟨_, hX9⟩) (N := 2) (by decide +kernel) lamd4_12 rfl (by decide) hd9 (by omega) (by omega) rfl (Nat.le_of_ble_eq_true rfl) rfl (Nat.le_of_ble_eq_true rfl) (b_X2_lambda_whyNotIn_2 _ _ _ sh f rc Ls S w T hk c x hc hx) (fun v9 h9 hp => ?_)
  obtain ⟨ev, hp2⟩ := hp
  subst ev
  dsimp only [zst]
  exact zf_zret X lamd4_15 (nar_bI _) (by omega) (by omega) ⟨rfl, hp2⟩
theorem lamL8 (l : Launch) (g : zG) (h : GH) (dd a : Nat) (hd9 : 3 ≤ dd) (q : Nat) (u hr sg : Int) (hv : h q = some (zO 4 [vI u, vI hr, vI sg])) (hu : 0 ≤ u ∧ u ≤ 8000) (hh : h a = some (zLm 8 [vR q])) : zLam l 8 lamB8 1 dd 0 0 a [] g h (fun v' h' => v' = some (vI (bI (u = 0))) ∧ h' = h) := by
  intro C hg hl hm X
  subst hg hl
  refine zf_aload (i := 0) X lamd8_0 rfl rfl ?_
  refine zf_get X hm lams8 lamok8 (j := 0) (by decide) hh rfl lamd8_1 ?_
  refine zf_callS X hm lams8 lamok8 (y := yX2_lambda_whyNotMade_3) (vs := [vR q]) (st := []) rfl (by decide) (by decide) q1328 q1329 q113 (N := 1) (by decide +kernel) lamd8_4 rfl (by decide) hd9 (by omega) (by omega) rfl (Nat.le_of_ble_eq_true rfl) rfl (Nat.le_of_ble_eq_true rfl) (b_X2_lambda_whyNotMade_3 _ _ _ q u hr sg hv hu) (fun v9 h9 hp => ?_)
  obtain ⟨ev, hp2⟩ := hp
  subst ev
  dsimp only [zst]
  exact zf_zret X lamd8_7 (nar_bI _) (by omega) (by omega) ⟨rfl, hp2⟩
theorem lamL9 (l : Launch) (g : zG) (h : GH) (dd a : Nat) (hd9 : 3 ≤ dd) (q qm : Nat) (u hr sg z mk wr rs : Int) (t : Int) (hv : h q = some (zO 4 [vI u, vI hr, vI sg])) (hmd : h qm = some (zO 5 [vR (g.2.2 z.toNat), vI mk, vI wr, vI rs])) (hu : 0 ≤ u ∧ u ≤ 8000) (hz : 0 ≤ z ∧ z ≤ 2) (ht : 0 ≤ t ∧ t ≤ 480) (hh : h a = some (zLm 9 [vI t, vR qm, vR q])) : zLam l 9 lamB9 1 dd 0 0 a [] g h (fun v' h' => v' = some (vI (bI (u < t * szU z))) ∧ h' = h) := by
  intro C hg hl hm X
  subst hg hl
  refine zf_aload (i := 0) X lamd9_0 rfl rfl ?_
  refine zf_get X hm lams9 lamok9 (j := 0) (by decide) hh rfl lamd9_1 ?_
  refine zf_aload (i := 0) X lamd9_4 rfl rfl ?_
  refine zf_get X hm lams9 lamok9 (j := 1) (by decide) hh rfl lamd9_5 ?_
  refine zf_aload (i := 0) X lamd9_8 rfl rfl ?_
  refine zf_get X hm lams9 lamok9 (j := 2) (by decide) hh rfl lamd9_9 ?_
  refine zf_callS X hm lams9 lamok9 (y := yX2_lambda_whyNotMade_4) (vs := [vI t, vR qm, vR q]) (st := []) rfl (by decide) (by decide) q1330 q1331 q113 (N := 3) (by decide +kernel) lamd9_12 rfl (by decide) hd9 (by omega) (by omega) rfl (Nat.le_of_ble_eq_true rfl) rfl (Nat.le_of_ble_eq_true rfl) (b_X2_lambda_whyNotMade_4 _ _ _ q qm u hr sg z mk wr rs t hv hmd hu hz ht) (fun v9 h9 hp => ?_)
  obtain ⟨ev, hp2⟩ := hp
  subst ev
  dsimp only [zst]
  exact zf_zret X lamd9_15 (nar_bI _) (by omega) (by omega) ⟨rfl, hp2⟩
theorem lamL10 (l : Launch) (g : zG) (h : GH) (dd a : Nat) (hd9 : 2 ≤ dd) (qm : Nat) (z mk wr rs : Int) (t : Int) (hmd : h qm = some (zO 5 [vR (g.2.2 z.toNat), vI mk, vI wr, vI rs])) (hw : 0 ≤ wr ∧ wr ≤ 2000) (ht : 0 ≤ t ∧ t ≤ 480) (hh : h a = some (zLm 10 [vR qm, vI t])) : zLam l 10 lamB10 1 dd 0 0 a [] g h (fun v' h' => v' = some (vI (bI (2000 < wr + t))) ∧ h' = h) := by
  intro C hg hl hm X
  subst hg hl
  refine zf_aload (i := 0) X lamd10_0 rfl rfl ?_
  refine zf_get X hm lams10 lamok10 (j := 0) (by decide) hh rfl lamd10_1 ?_
  refine zf_aload (i := 0) X lamd10_4 rfl rfl ?_
  refine zf_get X hm lams10 lamok10 (j := 1) (by decide) hh rfl lamd10_5 ?_
  refine zf_callS X hm lams10 lamok10 (y := yX2_lambda_whyNotMade_5) (vs := [vR qm, vI t]) (st := []) rfl (by decide) (by decide) q1332 q1333 q113 (N := 2) (by decide +kernel) lamd10_8 rfl (by decide) hd9 (by omega) (by omega) rfl (Nat.le_of_ble_eq_true rfl) rfl (Nat.le_of_ble_eq_true rfl) (b_X2_lambda_whyNotMade_5 _ _ _ qm z mk wr rs t hmd hw ht) (fun v9 h9 hp => ?_)
  obtain ⟨ev, hp2⟩ := hp
  subst ev
  dsimp only [zst]
  exact zf_zret X lamd10_11 (nar_bI _) (by omega) (by omega) ⟨rfl, hp2⟩
theorem lamL11 (l : Launch) (g : zG) (h : GH) (dd a : Nat) (hd9 : 7 ≤ dd) (sh : Sh) (f : Int → Int) (rc : Nat) (Ls : Nat → ELs) (S : St) (w : rW g.2.2 h sh (f, rc, Ls)) (T : tie f Ls S) (hk : okY S)  (hh : h a = some (zLm 11 [vR sh.1])) (hX9 : h sh.1 = some (zO 1 (stF sh f rc))) : zLam l 11 lamB11 1 dd 0 0 a [] g h (fun v' h' => v' = some (vI (bI (S.2.2.1.length = 12))) ∧ h' = h) := by
  intro C hg hl hm X
  subst hg hl
  refine zf_aload (i := 0) X lamd11_0 rfl rfl ?_
  refine zf_get X hm lams11 lamok11 (j := 0) (by decide) hh rfl lamd11_1 ?_
  refine zf_callV X hm lams11 lamok11 (y := yX2_lambda_whyNotMade_6) (vs := []) (st := []) rfl (by decide) (by decide) q1335 q1336 qs28 rfl (ci := 1) rfl (by exact ⟨_, hX9⟩) (N := 0) (by decide +kernel) lamd11_4 rfl (by decide) hd9 (by omega) (by omega) rfl (Nat.le_of_ble_eq_true rfl) rfl (Nat.le_of_ble_eq_true rfl) (b_X2_lambda_whyNotMade_6 _ _ _ sh f rc Ls S w T hk) (fun v9 h9 hp => ?_)
  obtain ⟨ev, hp2⟩ := hp
  subst ev
  dsimp only [zst]
  exact zf_zret X lamd11_7 (nar_bI _) (by omega) (by omega) ⟨rfl, hp2⟩
theorem lamL12 (l : Launch) (g : zG) (h : GH) (dd a : Nat) (hd9 : 8 ≤ dd) (sh : Sh) (f : Int → Int) (rc : Nat) (Ls : Nat → ELs) (S : St) (w : rW g.2.2 h sh (f, rc, Ls)) (T : tie f Ls S) (hk : okY S) (v m : Int) (hv : 0 ≤ v ∧ v < 3) (hm0 : 0 ≤ m ∧ m < 5) (hh : h a = some (zLm 12 [vR sh.1, vI v, vI m])) (hX9 : h sh.1 = some (zO 1 (stF sh f rc))) : zLam l 12 lamB12 1 dd 0 0 a [] g h (fun v' h' => v' = some (vI (bI (ptsN S.1 v m < 30))) ∧ h' = h) := by
  intro C hg hl hm X
  subst hg hl
  refine zf_aload (i := 0) X lamd12_0 rfl rfl ?_
  refine zf_get X hm lams12 lamok12 (j := 0) (by decide) hh rfl lamd12_1 ?_
  refine zf_aload (i := 0) X lamd12_4 rfl rfl ?_
  refine zf_get X hm lams12 lamok12 (j := 1) (by decide) hh rfl lamd12_5 ?_
  refine zf_aload (i := 0) X lamd12_8 rfl rfl ?_
  refine zf_get X hm lams12 lamok12 (j := 2) (by decide) hh rfl lamd12_9 ?_
  refine zf_callV X hm lams12 lamok12 (y := yX2_lambda_whyNotMade_7) (vs := [vI v, vI m]) (st := []) rfl (by decide) (by decide) q1338 q1339 qs29 rfl (ci := 1) rfl (by exact ⟨_, hX9⟩) (N := 2) (by decide +kernel) lamd12_12 rfl (by decide) hd9 (by omega) (by omega) rfl (Nat.le_of_ble_eq_true rfl) rfl (Nat.le_of_ble_eq_true rfl) (b_X2_lambda_whyNotMade_7 _ _ _ sh f rc Ls S w T hk v m hv hm0) (fun v9 h9 hp => ?_)
  obtain ⟨ev, hp2⟩ := hp
  subst ev
  dsimp only [zst]
  exact zf_zret X lamd12_15 (nar_bI _) (by omega) (by omega) ⟨rfl, hp2⟩
/-- a reason at an address: what it answers -/
def zRsn (l : Launch) (dd : Nat) (g : zG) (h : GH) (a : Nat) (z : Int) : Prop :=
  (z = 0 ∨ z = 1) ∧ ∃ (i : Nat) (x : MethodName) (pcS idxS : Nat) (σ : Lambda.Shape) (bytes : ByteArray) (iT cT : Nat) (fi : List Nat) (tys : Array FieldType) (vs : List Value), lamSites.find? (fun z => z.1 == i) = some (i, .lambdaSite x pcS idxS σ) ∧ lamOK σ x.cls bytes 1 (some .boolean) iT cT fi tys ∧ plainName (x.cls ++ "$$Lambda") = true ∧
    (σ.iface, σ.name, σ.sam.toString) = ("PaperMill$Reason", "holds", "()Z") ∧ h a = some (zLm i vs) ∧ zLam l i bytes 1 dd 0 0 a [] g h (fun v h' => v = some (vI z) ∧ h' = h)
/-- the first of N that holds, from 1 -/
def fstN (b : Nat → Int) (N : Nat) : Nat → Int
  | 0 => 0
  | k + 1 => if b (N - (k + 1)) = 0 then fstN b N k else ((N - (k + 1) : Nat) : Int) + 1
theorem fst_s {b : Nat → Int} {N k : Nat} (h : k < N) : fstN b N (N - k) = if b k = 0 then fstN b N (N - (k + 1)) else (k : Int) + 1 := by
  rw [show N - k = (N - (k + 1)) + 1 by omega]
  show (if b (N - ((N - (k + 1)) + 1)) = 0 then _ else _) = _
  rw [show N - ((N - (k + 1)) + 1) = k by omega]
theorem Y_X1_first : zYS yX1_first cX1_first 2 (some .int) 1 := ⟨⟨q1258, q112, q1259⟩, by decide +kernel, by decide⟩
set_option maxRecDepth 100000 in
theorem c_X1_first (l : Launch) (g : zG) (h : GH) (dd NR q : Nat) (f : Nat → Option Nat) (b : Nat → Int) (hq : h q = some (zAq 16 NR f)) (hNR : NR ≤ 8) (hr : ∀ k, k < NR → ∃ a, f k = some a ∧ zRsn l dd g h a (b k)) : zPur l yX1_first cX1_first 2 (some .int) (dd + 1) [vR q] g h (some (vI (fstN b NR NR))) := by
  refine zMet.mk (L0 := [some (vR q), none]) (by decide) rfl (Nat.le_of_ble_eq_true rfl) rfl (fun C hg hl hnm X => ?_)
  subst hg hl
  refine z_iconst (pc' := 1) X dX1_first_0 rfl ?_
  refine z_istore_n (pc' := 2) X dX1_first_1 rfl (by decide) rfl ?_
  dsimp only [List.set]
  have loop2 : ∀ (N : Nat) (k9 : Nat) , (k9 ≤ NR) → (fstN b NR NR = fstN b NR (NR - k9)) → (NR - k9) < N → ZP C 2 (zAt h) (0) (0) [some (vR q), some (vI (k9 : Int))] 2 [] := by
    intro N
    induction N with
    | zero => intro k9  hb hfs hN; exact absurd hN (Nat.not_lt_zero _)
    | succ N ih2 =>
      intro k9  hb hfs hN
      refine z_iload_n (pc' := 3) X dX1_first_2 rfl rfl ?_
      refine z_aload_n (pc' := 4) X dX1_first_3 rfl rfl ?_
      refine z_alen1 (pc' := 5) X (t0 := 6) (fun _ => rfl) hq dX1_first_4 rfl ?_
      refine z_icmp_ge (tgt := 29) (pc' := 8) X (by first | assumption | omega | (unfold rng; omega)) (by first | assumption | omega | (unfold rng; omega)) dX1_first_5 rfl (by decide) (fun c5 => ?_) (fun c5 => ?_)
      · refine z_iconst (pc' := 30) X dX1_first_29 rfl ?_
        refine z_iret1 X dX1_first_30 (Nat.le_of_ble_eq_true rfl) (Nat.le_of_ble_eq_true rfl) ?_
        exact ⟨by rw [hfs, show NR - k9 = 0 by omega]; rfl, rfl⟩
      · refine z_aload_n (pc' := 9) X dX1_first_8 rfl rfl ?_
        refine z_iload_n (pc' := 10) X dX1_first_9 rfl rfl ?_
        obtain ⟨a9, hf9, hr9⟩ := hr k9 (by omega)
        have hst9 : fstN b NR (NR - k9) = if b k9 = 0 then fstN b NR (NR - (k9 + 1)) else (k9 : Int) + 1 := fst_s (by omega)
        refine z_aald1 (pc' := 11) X (t0 := 6) (fun _ => rfl) hq (by first | assumption | omega | (unfold rng; omega)) (by omega) dX1_first_10 rfl ?_
        rw [Int.toNat_natCast, hf9]
        obtain ⟨hz01, i9, x9, p9, d9, σ9, by9, iT9, cT9, fi9, ty9, vs9, hs9, ok9, pl9, xi9, hh9, hM9⟩ := hr9
        refine z_lam (pc' := 16) (xi := ⟨"PaperMill$Reason", "holds", "()Z"⟩) (N := 0) (dy := dd) (mcy := 0) (msy := 0) (argsL := []) (st := []) X hs9 ok9 pl9 xi9 (by decide) q1261 q1262 q1263 (by decide +kernel) dX1_first_11 rfl hh9 rfl rfl rfl (by decide) (Nat.le_refl _) (by omega) (by omega) (Nat.le_of_ble_eq_true rfl) rfl (Nat.le_of_ble_eq_true rfl) hM9 (fun v9 h9 hp9 => ?_)
        obtain ⟨ev9, eh9⟩ := hp9
        subst ev9 eh9
        dsimp only [zst]
        refine z_if_eq (tgt := 23) (pc' := 19) X (by unfold rng; omega) dX1_first_16 rfl (by decide) (fun c16 => ?_) (fun c16 => ?_)
        · refine z_iinc (pc' := 26) X dX1_first_23 rfl (by decide) rfl rfl ?_
          dsimp only [List.set]
          refine z_goto (tgt := 2) X dX1_first_26 (by decide) ?_
          rw [show (k9 : Int) + 1 = ((k9 + 1 : Nat) : Int) by omega]
          refine ZP.wk (L' := [some (vR q), some (vI _)]) (And.intro rfl (And.intro rfl (trivial))) ?_
          exact ZP.mono (Nat.le_of_ble_eq_true rfl) (Nat.le_of_ble_eq_true rfl) (ih2 (k9 + 1)  (by omega) (by rw [hfs, hst9, if_pos c16]) (by omega))
        · refine z_iload_n (pc' := 20) X dX1_first_19 rfl rfl ?_
          refine z_iconst (pc' := 21) X dX1_first_20 rfl ?_
          refine z_iadd (pc' := 22) X dX1_first_21 rfl ?_
          refine z_iret1 X dX1_first_22 (Nat.le_of_ble_eq_true rfl) (Nat.le_of_ble_eq_true rfl) ?_
          exact ⟨by rw [hfs, hst9, if_neg c16], rfl⟩
  refine ZP.wk (L' := [some (vR q), some (vI _)]) (And.intro rfl (And.intro rfl (trivial))) ?_
  exact ZP.mono (Nat.le_of_ble_eq_true rfl) (Nat.le_of_ble_eq_true rfl) (loop2 _ 0  (Nat.zero_le _) rfl (Nat.lt_succ_self _))
end ZLAM7

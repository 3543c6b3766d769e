/-! THE STATE: whyNotBeaten, beat, sheetsFrom -/
section ZS12
theorem Y_X2_whyNotBeaten : zYV yX2_whyNotBeaten cX2_whyNotBeaten 5 (some .int) 2 := ⟨⟨q1276, q1277, q113, q1278⟩, by decide +kernel, by decide⟩
set_option maxRecDepth 100000 in
theorem c_X2_whyNotBeaten (l : Launch) (g : zG) (h : GH) (sh : Sh) (f : Int → Int) (rc : Nat) (Ls : Nat → ELs) (S : St) (w : rW g.2.2 h sh (f, rc, Ls)) (T : tie f Ls S) (hk : okY S) (v n : Int) (hv : 0 ≤ v ∧ v < 3) (hn : 1 ≤ n ∧ n ≤ 200) : zMet l yX2_whyNotBeaten cX2_whyNotBeaten 5 (some .int) 72 2 8 [vR sh.1, vI v, vI n] g h (fun r h' => r = some (vI (whyBS S v n)) ∧ hF h noF h') := by
  refine zMet.mk (L0 := [some (vR sh.1), some (vI v), some (vI n), none, none]) (by decide) rfl (Nat.le_of_ble_eq_true rfl) rfl (fun C hg hl hnm X => ?_)
  subst hg hl
  have hX := w.start
  obtain ⟨T0, ⟨Tc, Tc2⟩, ⟨Tb, Tb1, Tb2⟩, ⟨Tv, Tv2⟩, ⟨Tm, Tm2⟩, ⟨Tp, Tp1, Tp2⟩, ⟨Tr, Tr1⟩, Ta, Tz⟩ := id T
  obtain ⟨⟨⟨kc1a, kc1b, kc1c, kc1d, kc1e⟩, kc2, kc3, kc4, kc5⟩, kb, kp, kq⟩ := id hk
  obtain ⟨Tl1, Tl4, Tl5⟩ := T.lens
  have z0 := T0 0 (by omega)
  have z1 := T0 1 (by omega)
  have z2 := T0 2 (by omega)
  have z3 := T0 3 (by omega)
  have hrf : ∀ j, 8 ≤ j → j < 12 → f j = S.1 j := fun j a b => T0 j (by omega)
  have hTf : okT f := by have t := hk.1.T; unfold okT at t ⊢; rw [hrf 8 (by omega) (by omega), hrf 9 (by omega) (by omega), hrf 10 (by omega) (by omega), hrf 11 (by omega) (by omega)]; exact t
  have hfb : ∀ j, 0 ≤ j → j < 4 → 0 ≤ f (8 + j) ∧ f (8 + j) ≤ 2000000 := fun j a b => by
    rw [hrf _ (by omega) (by omega)]
    obtain rfl | rfl | rfl | rfl : j = 0 ∨ j = 1 ∨ j = 2 ∨ j = 3 := by omega
    · exact kc2.1
    · exact kc2.2.1
    · exact kc2.2.2.1
    · exact kc2.2.2.2.1
  have hsum := mSh_sum hk.1.T (n := n) (by omega)
  have hmb : ∀ j, 0 ≤ j → j < 4 → 0 ≤ mShare S.1 n j ∧ mShare S.1 n j ≤ 200 := fun j a b => by
    obtain rfl | rfl | rfl | rfl : j = 0 ∨ j = 1 ∨ j = 2 ∨ j = 3 := by omega
    all_goals omega
  refine z_aload_n (pc' := 1) X dX2_whyNotBeaten_0 rfl rfl ?_
  refine z_get1 (pc' := 4) (kf := 13) X in_X2 rfl (by decide) q238 (Or.inl rfl) hX.stA rfl dX2_whyNotBeaten_1 rfl ?_
  refine z_iload_n (pc' := 5) X dX2_whyNotBeaten_4 rfl rfl ?_
  obtain ⟨q1, e1, hk1⟩ := ELs.at (ps := Ls 2) (k := v) (by first | assumption | omega | exact bI_rng2)
  have t1 := Tv2 _ _ _ hk1
  rw [Int.toNat_of_nonneg (by omega)] at t1
  have b1 := kc4 (v) (by omega) (by omega)
  refine z_rget (pc' := 10) X q549 hX (i := 2) (by decide) (j := v) hk1 (by first | assumption | omega | exact bI_rng2) dX2_whyNotBeaten_5 rfl (by decide) (Nat.le_of_ble_eq_true rfl) (by omega) (by omega) (by show (Ls 2).length ≤ 1000; omega) ?_
  refine z_castS1 (pc' := 13) X (ci := 4) q380 rfl ⟨_, (hX.el2 hk1)⟩ dX2_whyNotBeaten_10 rfl ?_
  refine z_callV0 (pc' := 16) X Y_X5_isEmpty q1279 dX2_whyNotBeaten_13 rfl (Nat.le_of_ble_eq_true rfl) (by omega) (by omega) rfl rfl (Nat.le_of_ble_eq_true rfl) rfl ⟨_, (hX.el2 hk1)⟩ (c_X5_isEmpty _ _ _ _ _ _ _ (hX.el2 hk1) (by first | assumption | omega | exact bI_rng2)) ?_
  dsimp only [zst]
  refine z_if_ne (tgt := 21) (pc' := 19) X (by first | assumption | omega | exact bI_rng2) dX2_whyNotBeaten_16 rfl (by decide) (fun c16 => ?_) (fun c16 => ?_)
  · refine z_aload_n (pc' := 22) X dX2_whyNotBeaten_21 rfl rfl ?_
    refine z_get1 (pc' := 25) (kf := 4) X in_X2 rfl (by decide) q220 (Or.inl rfl) hX.stA rfl dX2_whyNotBeaten_22 rfl ?_
    refine z_iload_n (pc' := 26) X dX2_whyNotBeaten_25 rfl rfl ?_
    refine z_callSN1 (pc' := 29) X Y_X1_shares q1283 dX2_whyNotBeaten_26 rfl (Nat.le_of_ble_eq_true rfl) (by omega) (by omega) rfl rfl (Nat.le_of_ble_eq_true rfl) (c_X1_shares _ _ _ rc (f) _ (n) hX.1.2.2.2.2.2.2 (by exact hTf) (by exact hfb) (by omega)) (fun v3 h3 p3 => ?_)
    obtain ⟨q3, ev3, nq3, hf3, sf3, ha3, hs3⟩ := p3
    subst ev3
    dsimp only [zst]
    have hX3 : rX (zg C).2.2 h (fpS sh (f, rc, Ls)) sh (f, rc, Ls) h3 := hX.le hf3
    have w3 : hF h noF h3 := hF.rf.trans hf3 (fun _ h => h.elim)
    have hsS3 : ∀ j, 0 ≤ j → j < 4 → sf3 j = mShare S.1 n j := fun j a b => by rw [hs3 j a b]; exact (mShare_c (fun i u v => hrf i u v) ⟨a, b⟩).1
    refine z_astore_n (pc' := 30) X dX2_whyNotBeaten_29 rfl (by decide) rfl ?_
    dsimp only [List.set]
    refine z_iconst (pc' := 31) X dX2_whyNotBeaten_30 rfl ?_
    refine z_istore (pc' := 33) X dX2_whyNotBeaten_31 rfl (by decide) rfl ?_
    dsimp only [List.set]
    have loop33 : ∀ (N : Nat) (k : Int) , (0 ≤ k ∧ k ≤ 4) → (∀ j, 0 ≤ j → j < k → ¬ goodL j S.2.1 < mShare S.1 n j) → (4 - k).toNat < N → ZP C 5 (zAt h3) (2) (8) [some (vR sh.1), some (vI v), some (vI n), some (vR q3), some (vI k)] 33 [] := by
      intro N
      induction N with
      | zero => intro k  hb9 hnx hN; exact absurd hN (Nat.not_lt_zero _)
      | succ N ih33 =>
        intro k  hb9 hnx hN
        refine z_iload (pc' := 35) X dX2_whyNotBeaten_33 rfl rfl ?_
        refine z_iconst (pc' := 36) X dX2_whyNotBeaten_35 rfl ?_
        refine z_icmp_ge (tgt := 63) (pc' := 39) X (by first | assumption | omega | exact bI_rng2) (by first | assumption | omega | exact bI_rng2) dX2_whyNotBeaten_36 rfl (by decide) (fun c36 => ?_) (fun c36 => ?_)
        · refine z_iconst (pc' := 64) X dX2_whyNotBeaten_63 rfl ?_
          refine z_iret1 X dX2_whyNotBeaten_64 (by omega) (by omega) ?_
          exact ⟨by rw [whyB_0 (by have := bI_n0 c16; omega) (fun j a b => hnx j a (by omega))], w3⟩
        · refine z_aload_n (pc' := 40) X dX2_whyNotBeaten_39 rfl rfl ?_
          refine z_iload (pc' := 42) X dX2_whyNotBeaten_40 rfl rfl ?_
          refine z_callV0 (pc' := 45) X Y_X2_goodRags q1289 dX2_whyNotBeaten_42 rfl (Nat.le_of_ble_eq_true rfl) (by omega) (by omega) rfl rfl (Nat.le_of_ble_eq_true rfl) rfl ⟨_, hX3.stA⟩ (c_X2_goodRags _ _ _ sh (f) rc (Ls) S hX3.1 T hk (k) (by first | assumption | omega | exact bI_rng2)) ?_
          dsimp only [zst]
          refine z_aload_n (pc' := 46) X dX2_whyNotBeaten_45 rfl rfl ?_
          refine z_iload (pc' := 48) X dX2_whyNotBeaten_46 rfl rfl ?_
          refine z_iald1 (pc' := 49) X ha3 (by omega) (by omega) dX2_whyNotBeaten_48 rfl ?_
          refine z_icmp_ge (tgt := 57) (pc' := 52) X (by first | assumption | (have := goodL_b (s := k) kb; unfold rng; omega) | (rw [hsS3 k (by omega) (by omega)]; have := hmb k (by omega) (by omega); unfold rng; omega)) (by first | assumption | (have := goodL_b (s := k) kb; unfold rng; omega) | (rw [hsS3 k (by omega) (by omega)]; have := hmb k (by omega) (by omega); unfold rng; omega)) dX2_whyNotBeaten_49 rfl (by decide) (fun c49 => ?_) (fun c49 => ?_)
          · refine z_iinc (pc' := 60) X dX2_whyNotBeaten_57 rfl (by decide) rfl rfl ?_
            dsimp only [List.set]
            refine z_goto (tgt := 33) X dX2_whyNotBeaten_60 (by decide) ?_
            refine ZP.wk (L' := [some (vR sh.1), some (vI v), some (vI n), some (vR q3), some (vI _)]) (And.intro rfl (And.intro rfl (And.intro rfl (And.intro rfl (And.intro rfl (trivial)))))) ?_
            exact ZP.mono (by omega) (by omega) (ih33 _   (by omega) (fun j a b => (Decidable.em (j = k)).elim (fun e => by rw [e, ← hsS3 k (by omega) (by omega)]; omega) (fun e => hnx j a (by omega))) (by omega))
          · refine z_iconst (pc' := 53) X dX2_whyNotBeaten_52 rfl ?_
            refine z_iload (pc' := 55) X dX2_whyNotBeaten_53 rfl rfl ?_
            refine z_iadd (pc' := 56) X dX2_whyNotBeaten_55 rfl ?_
            refine z_iret1 X dX2_whyNotBeaten_56 (by omega) (by omega) ?_
            exact ⟨by rw [whyB_k (by have := bI_n0 c16; omega) (by omega) hnx (by rw [← hsS3 k (by omega) (by omega)]; omega)], w3⟩
    refine ZP.wk (L' := [some (vR sh.1), some (vI v), some (vI n), some (vR q3), some (vI _)]) (And.intro rfl (And.intro rfl (And.intro rfl (And.intro rfl (And.intro rfl (trivial)))))) ?_
    exact ZP.mono (by omega) (by omega) (loop33 _ _   (by omega) (fun j a b => by omega) (Nat.lt_succ_self _))
  · refine z_iconst (pc' := 20) X dX2_whyNotBeaten_19 rfl ?_
    refine z_iret1 X dX2_whyNotBeaten_20 (by omega) (by omega) ?_
    exact ⟨by rw [whyB_1 (by have := bI_e0 c16; omega)], hF.rf⟩
theorem Y_X2_beat : zYV yX2_beat cX2_beat 8 (some .boolean) 2 := ⟨⟨q1272, q1273, q113, q1274⟩, by decide +kernel, by decide⟩
set_option maxRecDepth 100000 in
theorem c_X2_beat (l : Launch) (g : zG) (h : GH) (sh : Sh) (f : Int → Int) (rc : Nat) (Ls : Nat → ELs) (S : St) (w : rW g.2.2 h sh (f, rc, Ls)) (T : tie f Ls S) (hk : okY S) (v n : Int) (hv : 0 ≤ v ∧ v < 3) (hn : 1 ≤ n ∧ n ≤ 200) : zMet l yX2_beat cX2_beat 8 (some .boolean) 73 4 16 [vR sh.1, vI v, vI n] g h (fun r h' => r = some (vI (bI (whyBS S v n = 0))) ∧ ∃ Ls', rX g.2.2 h (fpS sh (f, rc, Ls)) sh (f, rc, Ls') h' ∧ tie f Ls' (if whyBS S v n = 0 then beatS v n S else S)) := by
  refine zMet.mk (L0 := [some (vR sh.1), some (vI v), some (vI n), none, none, none, none, none]) (by decide) rfl (Nat.le_of_ble_eq_true rfl) rfl (fun C hg hl hnm X => ?_)
  subst hg hl
  have hX := w.start
  obtain ⟨T0, ⟨Tc, Tc2⟩, ⟨Tb, Tb1, Tb2⟩, ⟨Tv, Tv2⟩, ⟨Tm, Tm2⟩, ⟨Tp, Tp1, Tp2⟩, ⟨Tr, Tr1⟩, Ta, Tz⟩ := id T
  obtain ⟨⟨⟨kc1a, kc1b, kc1c, kc1d, kc1e⟩, kc2, kc3, kc4, kc5⟩, kb, kp, kq⟩ := id hk
  obtain ⟨Tl1, Tl4, Tl5⟩ := T.lens
  have z0 := T0 0 (by omega)
  have z1 := T0 1 (by omega)
  have z2 := T0 2 (by omega)
  have z3 := T0 3 (by omega)
  have hrf : ∀ j, 8 ≤ j → j < 12 → f j = S.1 j := fun j a b => T0 j (by omega)
  have hTf : okT f := by have t := hk.1.T; unfold okT at t ⊢; rw [hrf 8 (by omega) (by omega), hrf 9 (by omega) (by omega), hrf 10 (by omega) (by omega), hrf 11 (by omega) (by omega)]; exact t
  have hfb : ∀ j, 0 ≤ j → j < 4 → 0 ≤ f (8 + j) ∧ f (8 + j) ≤ 2000000 := fun j a b => by
    rw [hrf _ (by omega) (by omega)]
    obtain rfl | rfl | rfl | rfl : j = 0 ∨ j = 1 ∨ j = 2 ∨ j = 3 := by omega
    · exact kc2.1
    · exact kc2.2.1
    · exact kc2.2.2.1
    · exact kc2.2.2.2.1
  have hsum := mSh_sum hk.1.T (n := n) (by omega)
  have hmb : ∀ j, 0 ≤ j → j < 4 → 0 ≤ mShare S.1 n j ∧ mShare S.1 n j ≤ 200 := fun j a b => by
    obtain rfl | rfl | rfl | rfl : j = 0 ∨ j = 1 ∨ j = 2 ∨ j = 3 := by omega
    all_goals omega
  have hE := fun x hx => (dryY_of T hk x hx).1
  refine z_aload_n (pc' := 1) X dX2_beat_0 rfl rfl ?_
  refine z_iload_n (pc' := 2) X dX2_beat_1 rfl rfl ?_
  refine z_iload_n (pc' := 3) X dX2_beat_2 rfl rfl ?_
  refine z_callV1 (pc' := 6) X Y_X2_whyNotBeaten q1275 dX2_beat_3 rfl (Nat.le_of_ble_eq_true rfl) (by omega) (by omega) rfl rfl (Nat.le_of_ble_eq_true rfl) rfl ⟨_, hX.stA⟩ (c_X2_whyNotBeaten _ _ _ sh (f) rc (Ls) S hX.1 T hk (v) (n) (by first | assumption | omega | (unfold rng; omega) | (have := @whyBS_b S v n; unfold rng; omega)) (by first | assumption | omega | (unfold rng; omega) | (have := @whyBS_b S v n; unfold rng; omega))) (fun v1 h1 p1 => ?_)
  obtain ⟨ev1, p1⟩ := p1
  subst ev1
  dsimp only [zst]
  have hX1 : rX (zg C).2.2 h (fpS sh (f, rc, Ls)) sh (f, rc, Ls) h1 := hX.le p1
  refine z_if_ne (tgt := 13) (pc' := 9) X (by first | assumption | omega | (unfold rng; omega) | (have := @whyBS_b S v n; unfold rng; omega)) dX2_beat_6 rfl (by decide) (fun c6 => ?_) (fun c6 => ?_)
  · refine z_iconst (pc' := 14) X dX2_beat_13 rfl ?_
    refine z_istore_n (pc' := 15) X dX2_beat_14 rfl (by decide) rfl ?_
    dsimp only [List.set]
    refine z_iload_n (pc' := 16) X dX2_beat_15 rfl rfl ?_
    refine z_if_eq (tgt := 113) (pc' := 19) X (by first | assumption | omega | (unfold rng; omega) | (have := @whyBS_b S v n; unfold rng; omega)) dX2_beat_16 rfl (by decide) (fun c16 => ?_) (fun c16 => ?_)
    · refine z_iload_n (pc' := 114) X dX2_beat_113 rfl rfl ?_
      refine z_zret1 X dX2_beat_114 (by first | exact nar_0 | exact nar_1 | exact nar_bI _ | exact nar_b (by omega)) (by omega) (by omega) ?_
      exact ⟨by rw [bI_f c6], Ls, hX1, by rw [if_neg c6]; exact T⟩
    · exact absurd rfl c16
  · refine z_iconst (pc' := 10) X dX2_beat_9 rfl ?_
    refine z_goto (tgt := 14) X dX2_beat_10 (by decide) ?_
    refine z_istore_n (pc' := 15) X dX2_beat_14 rfl (by decide) rfl ?_
    dsimp only [List.set]
    refine z_iload_n (pc' := 16) X dX2_beat_15 rfl rfl ?_
    refine z_if_eq (tgt := 113) (pc' := 19) X (by first | assumption | omega | (unfold rng; omega) | (have := @whyBS_b S v n; unfold rng; omega)) dX2_beat_16 rfl (by decide) (fun c16 => ?_) (fun c16 => ?_)
    · exact absurd c16 (by decide)
    · refine z_aload_n (pc' := 20) X dX2_beat_19 rfl rfl ?_
      refine z_get1 (pc' := 23) (kf := 4) X in_X2 rfl (by decide) q220 (Or.inl rfl) hX1.stA rfl dX2_beat_20 rfl ?_
      refine z_iload_n (pc' := 24) X dX2_beat_23 rfl rfl ?_
      refine z_callSN1 (pc' := 27) X Y_X1_shares q1283 dX2_beat_24 rfl (Nat.le_of_ble_eq_true rfl) (by omega) (by omega) rfl rfl (Nat.le_of_ble_eq_true rfl) (c_X1_shares _ _ _ rc (f) _ (n) hX1.1.2.2.2.2.2.2 (by exact hTf) (by exact hfb) (by omega)) (fun v2 h2 p2 => ?_)
      obtain ⟨q2, ev2, nq2, hf2, sf2, ha2, hs2⟩ := p2
      subst ev2
      dsimp only [zst]
      have hX2 : rX (zg C).2.2 h (fpS sh (f, rc, Ls)) sh (f, rc, Ls) h2 := hX1.le hf2
      have hsS2 : ∀ j, 0 ≤ j → j < 4 → sf2 j = mShare S.1 n j := fun j a b => by rw [hs2 j a b]; exact (mShare_c (fun i u v => hrf i u v) ⟨a, b⟩).1
      refine z_astore (pc' := 29) X dX2_beat_27 rfl (by decide) rfl ?_
      dsimp only [List.set]
      refine z_aload_n (pc' := 30) X dX2_beat_29 rfl rfl ?_
      refine z_get1 (pc' := 33) (kf := 13) X in_X2 rfl (by decide) q238 (Or.inl rfl) hX2.stA rfl dX2_beat_30 rfl ?_
      refine z_iload_n (pc' := 34) X dX2_beat_33 rfl rfl ?_
      obtain ⟨q3, e3, hk3⟩ := ELs.at (ps := Ls 2) (k := v) (by first | assumption | omega | (unfold rng; omega) | (have := @whyBS_b S v n; unfold rng; omega))
      have t3 := Tv2 _ _ _ hk3
      rw [Int.toNat_of_nonneg (by omega)] at t3
      have b3 := kc4 (v) (by omega) (by omega)
      refine z_rget (pc' := 39) X q549 hX2 (i := 2) (by decide) (j := v) hk3 (by first | assumption | omega | (unfold rng; omega) | (have := @whyBS_b S v n; unfold rng; omega)) dX2_beat_34 rfl (by decide) (Nat.le_of_ble_eq_true rfl) (by omega) (by omega) (by show (Ls 2).length ≤ 1000; omega) ?_
      refine z_castS1 (pc' := 42) X (ci := 4) q380 rfl ⟨_, (hX2.el2 hk3)⟩ dX2_beat_39 rfl ?_
      refine z_astore (pc' := 44) X dX2_beat_42 rfl (by decide) rfl ?_
      dsimp only [List.set]
      refine z_iconst (pc' := 45) X dX2_beat_44 rfl ?_
      refine z_istore (pc' := 47) X dX2_beat_45 rfl (by decide) rfl ?_
      dsimp only [List.set]
      refine z_iconst (pc' := 48) X dX2_beat_47 rfl ?_
      refine z_istore (pc' := 50) X dX2_beat_48 rfl (by decide) rfl ?_
      dsimp only [List.set]
      have loop50 : ∀ (N : Nat) (sm k : Int) (h50l : GH), (0 ≤ k ∧ k ≤ 4) → (rX (zg C).2.2 h (fpS sh (f, rc, Ls)) sh (f, rc, lup Ls 1 (bkL sf2 (Ls 1) k.toNat)) h50l) → (h50l q2 = some (zAi 10 4 sf2)) → (sm = zsum (fun j => sf2 j * strn j) k) → (0 ≤ sm) → (sm ≤ 12000 * k) → (4 - k).toNat < N → ZP C 8 (zAt h50l) (4) (16) [some (vR sh.1), some (vI v), some (vI n), some (vI 1), some (vR q2), some (vR q3), some (vI sm), some (vI k)] 50 [] := by
        intro N
        induction N with
        | zero => intro sm k h50l hb9 hXl hAl hsm hs0 hs1 hN; exact absurd hN (Nat.not_lt_zero _)
        | succ N ih50 =>
          intro sm k h50l hb9 hXl hAl hsm hs0 hs1 hN
          have hprod : k < 4 → 0 ≤ sf2 k * strn k ∧ sf2 k * strn k ≤ 12000 := fun hk4 => by
            rw [hsS2 k (by omega) (by omega)]
            have t1 := strn_b k
            exact mulb (A := 200) (B := 60) (hmb k (by omega) hk4) (by omega)
          have hp0 : ∀ j, 0 ≤ j → j < 4 → 0 ≤ sf2 j := fun j a b => by rw [hsS2 j a b]; exact (hmb j a b).1
          refine z_iload (pc' := 52) X dX2_beat_50 rfl rfl ?_
          refine z_iconst (pc' := 53) X dX2_beat_52 rfl ?_
          refine z_icmp_ge (tgt := 89) (pc' := 56) X (by first | assumption | omega | (unfold rng; omega) | (have := @whyBS_b S v n; unfold rng; omega)) (by first | assumption | omega | (unfold rng; omega) | (have := @whyBS_b S v n; unfold rng; omega)) dX2_beat_53 rfl (by decide) (fun c53 => ?_) (fun c53 => ?_)
          · have hk4 : k = 4 := by omega
            subst hk4
            have hX89 : rX (zg C).2.2 h (fpS sh (f, rc, Ls)) sh (f, rc, (lup Ls 1 ((bkL sf2 (Ls 1) 4)))) h50l := hXl
            refine z_aload (pc' := 91) X dX2_beat_89 rfl rfl ?_
            refine z_bipush (pc' := 93) X dX2_beat_91 rfl (by decide) ?_
            refine z_iload_n (pc' := 94) X dX2_beat_93 rfl rfl ?_
            refine z_imul (pc' := 95) X dX2_beat_94 rfl ?_
            refine z_put1 (pc' := 98) (kf := 0) X in_X5 tyX5 tyX5_ok nmX5 rfl (by decide) q387 (Or.inl rfl) rfl rfl rfl (Nat.le_of_ble_eq_true rfl) (hX89.el2 hk3) dX2_beat_95 rfl (fun h4 e4 => ?_)
            have hX4 : rX (zg C).2.2 h (fpS sh (f, rc, Ls)) sh (f, rc, (lup (lup Ls 1 ((bkL sf2 (Ls 1) 4))) 2 ((Ls 2).set (v).toNat (q3, ((40 * n), e3.2.1, e3.2.2.1, e3.2.2.2.1, e3.2.2.2.2))))) h4 := by rw [e4]; have t := hX89.elem (i := 2) (e' := ((40 * n), e3.2.1, e3.2.2.1, e3.2.2.2.1, e3.2.2.2.2)) (by decide) hk3 rfl; exact t
            have hk4 : ((Ls 2).set (v).toNat (q3, ((40 * n), e3.2.1, e3.2.2.1, e3.2.2.2.1, e3.2.2.2.2)))[(v).toNat]? = some (q3, ((40 * n), e3.2.1, e3.2.2.1, e3.2.2.2.1, e3.2.2.2.2)) := set_at hk3
            have fa5 := (congrFun e4 _).trans (hset_ao hAl (hX89.el2 hk3))
            refine z_aload (pc' := 100) X dX2_beat_98 rfl rfl ?_
            refine z_iconst (pc' := 101) X dX2_beat_100 rfl ?_
            refine z_put1 (pc' := 104) (kf := 1) X in_X5 tyX5 tyX5_ok nmX5 rfl (by decide) q390 (Or.inl rfl) rfl rfl rfl (Nat.le_of_ble_eq_true rfl) (show h4 q3 = some (zO 4 [vI ((40 * n)), vI (e3.2.1), vI (e3.2.2.1)]) from hX4.el2 hk4) dX2_beat_101 rfl (fun h6 e6 => ?_)
            have hX6 : rX (zg C).2.2 h (fpS sh (f, rc, Ls)) sh (f, rc, (lup (lup Ls 1 ((bkL sf2 (Ls 1) 4))) 2 ((Ls 2).set (v).toNat (q3, ((40 * n), 0, e3.2.2.1, e3.2.2.2.1, e3.2.2.2.2))))) h6 := by rw [e6]; have t := hX4.elem (i := 2) (e' := ((40 * n), 0, e3.2.2.1, e3.2.2.2.1, e3.2.2.2.2)) (by decide) hk4 rfl; have t2 : rX (zg C).2.2 h (fpS sh (f, rc, Ls)) sh (f, rc, lup (lup (lup Ls 1 ((bkL sf2 (Ls 1) 4))) 2 ((Ls 2).set (v).toNat (q3, ((40 * n), e3.2.1, e3.2.2.1, e3.2.2.2.1, e3.2.2.2.2)))) 2 (((Ls 2).set (v).toNat (q3, ((40 * n), e3.2.1, e3.2.2.1, e3.2.2.2.1, e3.2.2.2.2))).set (v).toNat (q3, ((40 * n), 0, e3.2.2.1, e3.2.2.2.1, e3.2.2.2.2)))) _ := t; rw [lup_lup, set_set2] at t2; exact t2
            have hk6 : ((Ls 2).set (v).toNat (q3, ((40 * n), 0, e3.2.2.1, e3.2.2.2.1, e3.2.2.2.2)))[(v).toNat]? = some (q3, ((40 * n), 0, e3.2.2.1, e3.2.2.2.1, e3.2.2.2.2)) := set_at hk3
            have fa7 := (congrFun e6 _).trans (hset_ao fa5 (show h4 q3 = some (zO 4 [vI ((40 * n)), vI (e3.2.1), vI (e3.2.2.1)]) from hX4.el2 hk4))
            refine z_aload (pc' := 106) X dX2_beat_104 rfl rfl ?_
            refine z_iload (pc' := 108) X dX2_beat_106 rfl rfl ?_
            refine z_iload_n (pc' := 109) X dX2_beat_108 rfl rfl ?_
            refine z_idivp (pc' := 110) X (by constructor <;> omega) (by omega) dX2_beat_109 rfl ?_
            refine z_put1 (pc' := 113) (kf := 2) X in_X5 tyX5 tyX5_ok nmX5 rfl (by decide) q393 (Or.inl rfl) rfl rfl rfl (Nat.le_of_ble_eq_true rfl) (show h6 q3 = some (zO 4 [vI ((40 * n)), vI (0), vI (e3.2.2.1)]) from hX6.el2 hk6) dX2_beat_110 rfl (fun h8 e8 => ?_)
            have hX8 : rX (zg C).2.2 h (fpS sh (f, rc, Ls)) sh (f, rc, (lup (lup Ls 1 ((bkL sf2 (Ls 1) 4))) 2 ((Ls 2).set (v).toNat (q3, ((40 * n), 0, (sm / n), e3.2.2.2.1, e3.2.2.2.2))))) h8 := by rw [e8]; have t := hX6.elem (i := 2) (e' := ((40 * n), 0, (sm / n), e3.2.2.2.1, e3.2.2.2.2)) (by decide) hk6 rfl; have t2 : rX (zg C).2.2 h (fpS sh (f, rc, Ls)) sh (f, rc, lup (lup (lup Ls 1 ((bkL sf2 (Ls 1) 4))) 2 ((Ls 2).set (v).toNat (q3, ((40 * n), 0, e3.2.2.1, e3.2.2.2.1, e3.2.2.2.2)))) 2 (((Ls 2).set (v).toNat (q3, ((40 * n), 0, e3.2.2.1, e3.2.2.2.1, e3.2.2.2.2))).set (v).toNat (q3, ((40 * n), 0, (sm / n), e3.2.2.2.1, e3.2.2.2.2)))) _ := t; rw [lup_lup, set_set2] at t2; exact t2
            have hk8 : ((Ls 2).set (v).toNat (q3, ((40 * n), 0, (sm / n), e3.2.2.2.1, e3.2.2.2.2)))[(v).toNat]? = some (q3, ((40 * n), 0, (sm / n), e3.2.2.2.1, e3.2.2.2.2)) := set_at hk3
            have fa9 := (congrFun e8 _).trans (hset_ao fa7 (show h6 q3 = some (zO 4 [vI ((40 * n)), vI (0), vI (e3.2.2.1)]) from hX6.el2 hk6))
            refine z_iload_n (pc' := 114) X dX2_beat_113 rfl rfl ?_
            refine z_zret1 X dX2_beat_114 (by first | exact nar_0 | exact nar_1 | exact nar_bI _ | exact nar_b (by omega)) (by omega) (by omega) ?_
            exact ⟨by rw [bI_t (by omega)], _, hX8, by rw [if_pos (by omega)]; exact beat_tie T hk hv hn (by omega) hsS2 hk3 (by rw [hsm])⟩
          · refine z_aload_n (pc' := 57) X dX2_beat_56 rfl rfl ?_
            refine z_iload (pc' := 59) X dX2_beat_57 rfl rfl ?_
            refine z_aload (pc' := 61) X dX2_beat_59 rfl rfl ?_
            refine z_iload (pc' := 63) X dX2_beat_61 rfl rfl ?_
            refine z_iald1 (pc' := 64) X hAl (by omega) (by omega) dX2_beat_63 rfl ?_
            refine z_callV1 (pc' := 67) X Y_X2_take q1293 dX2_beat_64 rfl (Nat.le_of_ble_eq_true rfl) (by omega) (by omega) rfl rfl (Nat.le_of_ble_eq_true rfl) rfl ⟨_, hXl.stA⟩ (c_X2_take _ _ _ sh (f) rc ((lup Ls 1 ((bkL sf2 (Ls 1) k.toNat)))) hXl.1 (k) ((sf2 (k))) (by show (bkL sf2 (Ls 1) k.toNat).length ≤ 24; exact Nat.le_trans (bkL_ok hE hp0 (by omega)).2 Tb1) (by exact (bkL_ok hE hp0 (by omega)).1) (by omega) (by rw [hsS2 k (by omega) (by omega)]; have := hmb k (by omega) (by omega); omega)) (fun v10 h10 p10 => ?_)
            obtain ⟨ev10, p10⟩ := p10
            subst ev10
            dsimp only [zst]
            have fa11 := p10.2.1.2 _ _ hAl (hXl.nowr hAl stE_ai)
            have hX10 : rX (zg C).2.2 h (fpS sh (f, rc, Ls)) sh (f, rc, (lup Ls 1 (((gnR (tkX (k)) tkW ((sf2 (k))) ((bkL sf2 (Ls 1) k.toNat))).filter nzB)))) h10 := by have t := hXl.comp p10; rw [lup_lup] at t; exact t
            refine z_iload (pc' := 69) X dX2_beat_67 rfl rfl ?_
            refine z_aload (pc' := 71) X dX2_beat_69 rfl rfl ?_
            refine z_iload (pc' := 73) X dX2_beat_71 rfl rfl ?_
            refine z_iald1 (pc' := 74) X fa11 (by omega) (by omega) dX2_beat_73 rfl ?_
            refine z_iload (pc' := 76) X dX2_beat_74 rfl rfl ?_
            refine z_callSN0 (pc' := 79) X Y_X1_strength q1297 dX2_beat_76 rfl (Nat.le_of_ble_eq_true rfl) (by omega) (by omega) rfl rfl (Nat.le_of_ble_eq_true rfl) (c_X1_strength _ _ _ (k) (by omega)) ?_
            dsimp only [zst]
            refine z_imul (pc' := 80) X dX2_beat_79 rfl ?_
            refine z_iadd (pc' := 81) X dX2_beat_80 rfl ?_
            refine z_istore (pc' := 83) X dX2_beat_81 rfl (by decide) rfl ?_
            dsimp only [List.set]
            refine z_iinc (pc' := 86) X dX2_beat_83 rfl (by decide) rfl rfl ?_
            dsimp only [List.set]
            refine z_goto (tgt := 50) X dX2_beat_86 (by decide) ?_
            refine ZP.wk (L' := [some (vR sh.1), some (vI v), some (vI n), some (vI 1), some (vR q2), some (vR q3), some (vI _), some (vI _)]) (And.intro rfl (And.intro rfl (And.intro rfl (And.intro rfl (And.intro rfl (And.intro rfl (And.intro rfl (And.intro rfl (trivial))))))))) ?_
            exact ZP.mono (by omega) (by omega) (ih50 _ _  h10 (by omega) (by rw [show (k + 1).toNat = k.toNat + 1 by omega]; show rX _ _ _ _ (f, rc, lup Ls 1 ((gnR (tkX (k.toNat : Int)) tkW (sf2 (k.toNat : Int)) (bkL sf2 (Ls 1) k.toNat)).filter nzB)) _; rw [Int.toNat_of_nonneg hb9.1]; exact hX10) fa11 (by rw [zsum_s hb9.1, hsm]) (by omega) (by omega) (by omega))
      refine ZP.wk (L' := [some (vR sh.1), some (vI v), some (vI n), some (vI 1), some (vR q2), some (vR q3), some (vI _), some (vI _)]) (And.intro rfl (And.intro rfl (And.intro rfl (And.intro rfl (And.intro rfl (And.intro rfl (And.intro rfl (And.intro rfl (trivial))))))))) ?_
      exact ZP.mono (by omega) (by omega) (loop50 _ _ _  h2 (by omega) (by rw [show lup Ls 1 (bkL sf2 (Ls 1) (Int.toNat 0)) = Ls from lup_self]; exact hX2) ha2 rfl (by decide) (by decide) (Nat.lt_succ_self _))
end ZS12

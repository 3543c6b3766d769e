/-! THE STATE: make, sheetsFrom -/
section ZS14
theorem whyS_n {S : St} {v m n : Int} (h : whySS S v m n = 0) : S.1 (117 + 3 * v) ≠ 0 ∧ n * mZ (m % 3) ≤ S.1 (117 + 3 * v) ∧ S.1 (126 + 3 * m + 1) + n ≤ 2000 ∧ S.2.2.1.length ≠ 12 ∧ 30 ≤ ptsN S.1 v m := by
  unfold whySS at h
  (repeat' split at h) <;> first | omega | skip
theorem whySS_b {S : St} {v m n : Int} : 0 ≤ whySS S v m n ∧ whySS S v m n ≤ 5 := by
  unfold whySS
  (repeat' split) <;> omega
theorem mkF_at {f : Int → Int} {v m n : Int} (hv : 0 ≤ v ∧ v < 3) (hm : 0 ≤ m ∧ m < 5) :
    mkF f v m n (126 + 3 * m + 2) = mkAllN f v m n % 100 ∧ mkF f v m n (126 + 3 * m + 1) = f (126 + 3 * m + 1) + n ∧ mkF f v m n (117 + 3 * v) = f (117 + 3 * v) - mkSomeN f v m n * mZ (m % 3) ∧
    mkF f v m n (117 + 3 * v + 1) = (if f (117 + 3 * v) - mkSomeN f v m n * mZ (m % 3) = 0 then 0 else f (117 + 3 * v + 1)) ∧ mkF f v m n (117 + 3 * v + 2) = (if f (117 + 3 * v) - mkSomeN f v m n * mZ (m % 3) = 0 then 0 else f (117 + 3 * v + 2)) ∧
    ∀ j, (j < 117 + 3 * v ∨ 117 + 3 * v + 2 < j) → (j < 126 + 3 * m + 1 ∨ 126 + 3 * m + 2 < j) → mkF f v m n j = f j := by
  unfold mkF
  by_cases hz : f (117 + 3 * v) - mkSomeN f v m n * mZ (m % 3) = 0
  · rw [if_pos hz, if_pos hz, if_pos hz]
    unfold mkF1
    refine ⟨?_, ?_, ?_, ?_, iup_s, fun j a b => ?_⟩
    · rw [iup_n (by omega), iup_n (by omega), iup_n (by omega), iup_n (by omega), iup_n (by omega), iup_s]
    · rw [iup_n (by omega), iup_n (by omega), iup_n (by omega), iup_n (by omega), iup_s]
    · rw [iup_n (by omega), iup_n (by omega), iup_s, hz]
    · rw [iup_n (by omega), iup_s]
    · rw [iup_n (by omega), iup_n (by omega), iup_n (by omega), iup_n (by omega), iup_n (by omega), iup_n (by omega)]
  · rw [if_neg hz, if_neg hz, if_neg hz]
    unfold mkF1
    refine ⟨?_, ?_, iup_s, ?_, ?_, fun j a b => ?_⟩
    · rw [iup_n (by omega), iup_n (by omega), iup_s]
    · rw [iup_n (by omega), iup_s]
    · rw [iup_n (by omega), iup_n (by omega), iup_n (by omega)]
    · rw [iup_n (by omega), iup_n (by omega), iup_n (by omega)]
    · rw [iup_n (by omega), iup_n (by omega), iup_n (by omega)]
theorem mkSome_b {S : St} (hk : okY S) {v m n : Int} (hv : 0 ≤ v ∧ v < 3) (hm : 0 ≤ m ∧ m < 5) (hn : 1 ≤ n ∧ n ≤ 480) (hp : 30 ≤ ptsN S.1 v m) : (0 ≤ mkAllN S.1 v m n ∧ mkAllN S.1 v m n ≤ 10000) ∧ 0 ≤ mkSomeN S.1 v m n ∧ mkSomeN S.1 v m n ≤ n ∧ ptsN S.1 v m ≤ 84 := by
  have a := hk.1.2.2.2.1 v (by omega) (by omega)
  have b := hk.1.2.2.2.2 m (by omega) (by omega)
  have h1 : ptsN S.1 v m ≤ 84 := by unfold ptsN; split <;> omega
  have h3 : 4 ≤ (100 - ptsN S.1 v m) / 4 ∧ (100 - ptsN S.1 v m) / 4 ≤ 17 := by omega
  have h4 := mulb (a := n) (b := (100 - ptsN S.1 v m) / 4) (A := 480) (B := 17) (by omega) (by omega)
  have h5 : n * ((100 - ptsN S.1 v m) / 4) ≤ n * 17 := Int.mul_le_mul_of_nonneg_left h3.2 (by omega)
  unfold mkSomeN mkAllN
  omega
theorem unitsV {N N' : Int → Int} {v : Int} (hv : 0 ≤ v ∧ v < 3) (h : ∀ j, 117 ≤ j → j < 126 → (j < 117 + 3 * v ∨ 117 + 3 * v + 2 < j) → N' j = N j) : N' 117 + N' 120 + N' 123 = N 117 + N 120 + N 123 - N (117 + 3 * v) + N' (117 + 3 * v) := by
  obtain rfl | rfl | rfl : v = 0 ∨ v = 1 ∨ v = 2 := by omega
  · rw [h 120 (by decide) (by decide) (by decide), h 123 (by decide) (by decide) (by decide)]
    show N' 117 + N 120 + N 123 = N 117 + N 120 + N 123 - N 117 + N' 117
    omega
  · rw [h 117 (by decide) (by decide) (by decide), h 123 (by decide) (by decide) (by decide)]
    show N 117 + N' 120 + N 123 = N 117 + N 120 + N 123 - N 120 + N' 120
    omega
  · rw [h 117 (by decide) (by decide) (by decide), h 120 (by decide) (by decide) (by decide)]
    show N 117 + N 120 + N' 123 = N 117 + N 120 + N 123 - N 123 + N' 123
    omega
theorem make_tie {f : Int → Int} {Ls : Nat → ELs} {S : St} {v m n : Int} {qv qm q1 : Nat} {ev em : El} (T : tie f Ls S) (hk : okY S) (hv : 0 ≤ v ∧ v < 3) (hm : 0 ≤ m ∧ m < 5) (hn : 1 ≤ n ∧ n ≤ 480) (hw : whySS S v m n = 0) (hqv : (Ls 2)[v.toNat]? = some (qv, ev)) (hqm : (Ls 3)[m.toNat]? = some (qm, em)) {ps : ELs}
    (hps : (mkSomeN S.1 v m n ≤ 0 ∧ ps = Ls 4) ∨ (0 < mkSomeN S.1 v m n ∧ ps = Ls 4 ++ [(q1, (S.1 (126 + 3 * m), m % 3, mkGr (ptsN S.1 v m), mkSomeN S.1 v m n, 0))])) :
    tie f (lup (lup (lup Ls 3 ((Ls 3).set m.toNat (qm, (em.1, em.2.1, S.1 (126 + 3 * m + 1) + n, mkAllN S.1 v m n % 100, em.2.2.2.2)))) 2 ((Ls 2).set v.toNat (qv, (S.1 (117 + 3 * v) - mkSomeN S.1 v m n * mZ (m % 3), (if S.1 (117 + 3 * v) - mkSomeN S.1 v m n * mZ (m % 3) = 0 then 0 else S.1 (117 + 3 * v + 1)), (if S.1 (117 + 3 * v) - mkSomeN S.1 v m n * mZ (m % 3) = 0 then 0 else S.1 (117 + 3 * v + 2)), ev.2.2.2.1, ev.2.2.2.2)))) 4 ps) (makeS v m n S) := by
  obtain ⟨w1, w2, w3, w4, w5⟩ := whyS_n hw
  obtain ⟨-, b2, b3, b4⟩ := mkSome_b hk hv hm hn w5
  obtain ⟨m1, m2, m3, m4, m5, m6⟩ := mkF_at (f := S.1) (n := n) hv hm
  have e0 := T.M.2 _ _ _ hqm
  rw [Int.toNat_of_nonneg hm.1] at e0
  have Tl := T.lens.2.1
  have TC := T.C
  have TV := T.V
  have TM := T.M
  obtain ⟨T0, -, TB, -, -, ⟨Tp, Tp1, Tp2⟩, TR, Ta, Tz⟩ := T
  have eU := unitsV (N := S.1) (N' := mkF S.1 v m n) hv fun j a b c => m6 j c (by omega)
  have e7 : mkF S.1 v m n 7 = S.1 7 := m6 7 (by omega) (by omega)
  have hzz := mZ_b (m % 3)
  refine ⟨fun j hj => by rw [T0 j hj]; exact (m6 j (by omega) (by omega)).symm, TC.keep (fun j a b => m6 j (by omega) (by omega)), TB, TV.set hv.1 m3.symm m4.symm m5.symm (fun j a b c => m6 j c (by omega)), TM.set hm.1 e0.1 ?_ m2.symm m1.symm (fun j a b c => m6 j (by omega) (by omega)), ?_, TR, ?_, Tz⟩
  · exact e0.2.1.trans (m6 _ (by omega) (by omega)).symm
  · rcases hps with ⟨hs, rfl⟩ | ⟨hs, rfl⟩
    · refine ⟨?_, Tp1, Tp2⟩
      show (Ls 4).map Prod.snd = if 0 < mkSomeN S.1 v m n then _ else S.2.2.1
      rw [if_neg (by omega)]
      exact Tp
    · refine ⟨?_, ?_, fun p hp => ?_⟩
      · show (Ls 4 ++ _).map Prod.snd = if 0 < mkSomeN S.1 v m n then _ else S.2.2.1
        rw [if_pos hs, List.map_append, Tp]
        rfl
      · show (Ls 4 ++ [_]).length ≤ 12
        rw [List.length_append]
        show (Ls 4).length + 1 ≤ 12
        omega
      · rcases List.mem_append.mp (show p ∈ Ls 4 ++ [(q1, (S.1 (126 + 3 * m), m % 3, mkGr (ptsN S.1 v m), mkSomeN S.1 v m n, 0))] from hp) with h | h
        · exact Tp2 p h
        · rw [List.mem_singleton.mp h]
          exact hs
  · rw [Ta]
    unfold unitsS
    show _ = mkF S.1 v m n 7 + lsum (fun b : Bl => 40 * b.2.1) S.2.1 + (mkF S.1 v m n 117 + mkF S.1 v m n 120 + mkF S.1 v m n 123) + lsum (fun p : Pl => p.2.2.2.1 * mZ p.2.1) (if 0 < mkSomeN S.1 v m n then S.2.2.1 ++ [(S.1 (126 + 3 * m), m % 3, mkGr (ptsN S.1 v m), mkSomeN S.1 v m n, 0)] else S.2.2.1) + lsum unitsQ S.2.2.2
    rw [e7, eU, m3]
    by_cases hs : 0 < mkSomeN S.1 v m n
    · rw [if_pos hs, lsum_app, lsum_one]
      dsimp only
      omega
    · rw [if_neg hs, show mkSomeN S.1 v m n = 0 by omega, Int.zero_mul]
      omega
theorem Y_X2_make : zYV yX2_make cX2_make 7 (some .int) 3 := ⟨⟨q1321, q1322, q113, q1323⟩, by decide +kernel, by decide⟩
set_option maxRecDepth 100000 in
theorem c_X2_make (l : Launch) (g : zG) (h : GH) (sh : Sh) (f : Int → Int) (rc : Nat) (Ls : Nat → ELs) (S : St) (w : rW g.2.2 h sh (f, rc, Ls)) (T : tie f Ls S) (hk : okY S) (v m x : Int) (hv : 0 ≤ v ∧ v < 3) (hm : 0 ≤ m ∧ m < 5) (ht : 1 ≤ x ∧ x ≤ 480) : zMet l yX2_make cX2_make 7 (some .int) 81 8 90 [vR sh.1, vI v, vI m, vI x] g h (fun r h' => r = some (vI (if whySS S v m x = 0 then mkSomeN S.1 v m x else -1)) ∧ ∃ sh' Ls', rX g.2.2 h (fpS sh (f, rc, Ls)) sh' (f, rc, Ls') h' ∧ tie f Ls' (if whySS S v m x = 0 then makeS v m x S else S)) := by
  refine zMet.mk (L0 := [some (vR sh.1), some (vI v), some (vI m), some (vI x), none, none, none]) (by decide) rfl (Nat.le_of_ble_eq_true rfl) rfl (fun C hg hl hnm X => ?_)
  subst hg hl
  have hX := w.start
  obtain ⟨T0, ⟨Tc, Tc2⟩, ⟨Tb, Tb1, Tb2⟩, ⟨Tv, Tv2⟩, ⟨Tm, Tm2⟩, ⟨Tp, Tp1, Tp2⟩, ⟨Tr, Tr1⟩, Ta, Tz⟩ := id T
  obtain ⟨⟨⟨kc1a, kc1b, kc1c, kc1d, kc1e⟩, kc2, kc3, kc4, kc5⟩, kb, kp, kq⟩ := id hk
  obtain ⟨Tl1, Tl4, Tl5⟩ := T.lens
  have z0 := T0 0 (by omega)
  have z1 := T0 1 (by omega)
  have z2 := T0 2 (by omega)
  have z3 := T0 3 (by omega)
  have hwy := whySS_b (S := S) (v := v) (m := m) (n := x)
  have hpb := ptsN_b hk hv hm
  refine z_aload_n (pc' := 1) X dX2_make_0 rfl rfl ?_
  refine z_iload_n (pc' := 2) X dX2_make_1 rfl rfl ?_
  refine z_iload_n (pc' := 3) X dX2_make_2 rfl rfl ?_
  refine z_iload_n (pc' := 4) X dX2_make_3 rfl rfl ?_
  refine z_callV1 (pc' := 7) X Y_X2_whyNotMade q1324 dX2_make_4 rfl (Nat.le_of_ble_eq_true rfl) (by omega) (by omega) rfl rfl (Nat.le_of_ble_eq_true rfl) rfl ⟨_, hX.stA⟩ (c_X2_whyNotMade _ _ _ sh (f) rc (Ls) S hX.1 T hk (v) (m) (x) (by first | assumption | omega | (unfold rng; omega)) (by first | assumption | omega | (unfold rng; omega)) (by first | assumption | omega | (unfold rng; omega))) (fun v1 h1 p1 => ?_)
  obtain ⟨ev1, p1⟩ := p1
  subst ev1
  dsimp only [zst]
  have hX1 : rX (zg C).2.2 h (fpS sh (f, rc, Ls)) sh (f, rc, Ls) h1 := hX.le p1
  refine z_if_le (tgt := 12) (pc' := 10) X (by first | assumption | omega | (unfold rng; omega)) dX2_make_7 rfl (by decide) (fun c7 => ?_) (fun c7 => ?_)
  · obtain ⟨w1, w2, w3, w4, w5⟩ := whyS_n (show whySS S v m x = 0 by omega)
    obtain ⟨b1, b2, b3, b4⟩ := mkSome_b hk hv hm ht w5
    have hgr : grN (ptsN S.1 v m) = mkGr (ptsN S.1 v m) := by unfold grN mkGr; (repeat' split) <;> omega
    have hpz := mZ_b (m % 3)
    have hpq := mulb (a := mkSomeN S.1 v m x) (b := mZ (m % 3)) (A := 480) (B := 4) (by omega) (by omega)
    have hmu : mkSomeN S.1 v m x * mZ (m % 3) ≤ x * mZ (m % 3) := Int.mul_le_mul_of_nonneg_right b3 (by omega)
    refine z_aload_n (pc' := 13) X dX2_make_12 rfl rfl ?_
    refine z_iload_n (pc' := 14) X dX2_make_13 rfl rfl ?_
    refine z_iload_n (pc' := 15) X dX2_make_14 rfl rfl ?_
    refine z_callV0 (pc' := 18) X Y_X2_points q1340 dX2_make_15 rfl (Nat.le_of_ble_eq_true rfl) (by omega) (by omega) rfl rfl (Nat.le_of_ble_eq_true rfl) rfl ⟨_, hX1.stA⟩ (c_X2_points _ _ _ sh (f) rc (Ls) S hX1.1 T hk (v) (m) (by first | assumption | omega | (unfold rng; omega)) (by first | assumption | omega | (unfold rng; omega))) ?_
    dsimp only [zst]
    refine z_istore (pc' := 20) X dX2_make_18 rfl (by decide) rfl ?_
    dsimp only [List.set]
    refine z_aload_n (pc' := 21) X dX2_make_20 rfl rfl ?_
    refine z_get1 (pc' := 24) (kf := 14) X in_X2 rfl (by decide) q240 (Or.inl rfl) hX1.stA rfl dX2_make_21 rfl ?_
    refine z_iload_n (pc' := 25) X dX2_make_24 rfl rfl ?_
    obtain ⟨q3, e3, hk3⟩ := ELs.at (ps := Ls 3) (k := m) (by first | assumption | omega | (unfold rng; omega))
    have t3 := Tm2 _ _ _ hk3
    rw [Int.toNat_of_nonneg (by omega)] at t3
    have b3 := kc5 (m) (by omega) (by omega)
    refine z_rget (pc' := 30) X q549 hX1 (i := 3) (by decide) (j := m) hk3 (by first | assumption | omega | (unfold rng; omega)) dX2_make_25 rfl (by decide) (Nat.le_of_ble_eq_true rfl) (by omega) (by omega) (by show (Ls 3).length ≤ 1000; omega) ?_
    refine z_castS1 (pc' := 33) X (ci := 5) q402 rfl ⟨_, (hX1.el3 hk3)⟩ dX2_make_30 rfl ?_
    refine z_astore (pc' := 35) X dX2_make_33 rfl (by decide) rfl ?_
    dsimp only [List.set]
    refine z_iload_n (pc' := 36) X dX2_make_35 rfl rfl ?_
    refine z_aload (pc' := 38) X dX2_make_36 rfl rfl ?_
    refine z_iload_n (pc' := 39) X dX2_make_38 rfl rfl ?_
    refine z_bipush (pc' := 41) X dX2_make_39 rfl (by decide) ?_
    refine z_iload (pc' := 43) X dX2_make_41 rfl rfl ?_
    refine z_isub (pc' := 44) X dX2_make_43 rfl ?_
    refine z_iconst (pc' := 45) X dX2_make_44 rfl ?_
    refine z_idivp (pc' := 46) X (by first | assumption | omega | (unfold rng; omega)) (by decide) dX2_make_45 rfl ?_
    refine z_callV1 (pc' := 49) X Y_X6_spoil q1369 dX2_make_46 rfl (Nat.le_of_ble_eq_true rfl) (by omega) (by omega) rfl rfl (Nat.le_of_ble_eq_true rfl) rfl ⟨_, (hX1.el3 hk3)⟩ (c_X6_spoil _ _ _ (q3) (((zg C).2.2 (e3.1).toNat)) (e3.2.1) (e3.2.2.1) (e3.2.2.2.1) (hX1.el3 hk3) (x) (((100 - (ptsN S.1 (v) (m))) / 4)) (by unfold mkAllN at b1; rw [t3.2.2.2]; omega)) (fun v4 h4 p4 => ?_)
    obtain ⟨ev4, e4⟩ := p4
    subst ev4
    dsimp only [zst]
    have hX4 : rX (zg C).2.2 h (fpS sh (f, rc, Ls)) sh (f, rc, (lup Ls 3 ((Ls 3).set (m).toNat (q3, (e3.1, e3.2.1, e3.2.2.1, ((x * ((100 - (ptsN S.1 (v) (m))) / 4) + e3.2.2.2.1) % 100), e3.2.2.2.2))))) h4 := by rw [e4]; have t := hX1.elem (i := 3) (e' := (e3.1, e3.2.1, e3.2.2.1, ((x * ((100 - (ptsN S.1 (v) (m))) / 4) + e3.2.2.2.1) % 100), e3.2.2.2.2)) (by decide) hk3 rfl; exact t
    have hk4 : ((Ls 3).set (m).toNat (q3, (e3.1, e3.2.1, e3.2.2.1, ((x * ((100 - (ptsN S.1 (v) (m))) / 4) + e3.2.2.2.1) % 100), e3.2.2.2.2)))[(m).toNat]? = some (q3, (e3.1, e3.2.1, e3.2.2.1, ((x * ((100 - (ptsN S.1 (v) (m))) / 4) + e3.2.2.2.1) % 100), e3.2.2.2.2)) := set_at hk3
    refine z_isub (pc' := 50) X dX2_make_49 rfl ?_
    refine z_istore (pc' := 52) X dX2_make_50 rfl (by decide) rfl ?_
    dsimp only [List.set]
    have hWh : (x - ((x * ((100 - (ptsN S.1 (v) (m))) / 4) + e3.2.2.2.1) / 100)) = mkSomeN S.1 v m x := by unfold mkSomeN mkAllN; rw [t3.2.2.2]
    rw [hWh]
    refine z_aload (pc' := 54) X dX2_make_52 rfl rfl ?_
    refine z_dup (pc' := 55) X rfl dX2_make_54 rfl ?_
    refine z_get1 (pc' := 58) (kf := 2) X in_X6 rfl (by decide) q423 (Or.inl rfl) (show h4 q3 = some (zO 5 [vR ((zg C).2.2 (e3.1).toNat), vI (e3.2.1), vI (e3.2.2.1), vI (((x * ((100 - (ptsN S.1 (v) (m))) / 4) + e3.2.2.2.1) % 100))]) from hX4.el3 hk4) rfl dX2_make_55 rfl ?_
    refine z_iload_n (pc' := 59) X dX2_make_58 rfl rfl ?_
    refine z_iadd (pc' := 60) X dX2_make_59 rfl ?_
    refine z_put1 (pc' := 63) (kf := 2) X in_X6 tyX6 tyX6_ok nmX6 rfl (by decide) q423 (Or.inl rfl) rfl rfl rfl (Nat.le_of_ble_eq_true rfl) (show h4 q3 = some (zO 5 [vR ((zg C).2.2 (e3.1).toNat), vI (e3.2.1), vI (e3.2.2.1), vI (((x * ((100 - (ptsN S.1 (v) (m))) / 4) + e3.2.2.2.1) % 100))]) from hX4.el3 hk4) dX2_make_60 rfl (fun h5 e5 => ?_)
    have hX5 : rX (zg C).2.2 h (fpS sh (f, rc, Ls)) sh (f, rc, (lup Ls 3 ((Ls 3).set (m).toNat (q3, (e3.1, e3.2.1, (e3.2.2.1 + x), ((x * ((100 - (ptsN S.1 (v) (m))) / 4) + e3.2.2.2.1) % 100), e3.2.2.2.2))))) h5 := by rw [e5]; have t := hX4.elem (i := 3) (e' := (e3.1, e3.2.1, (e3.2.2.1 + x), ((x * ((100 - (ptsN S.1 (v) (m))) / 4) + e3.2.2.2.1) % 100), e3.2.2.2.2)) (by decide) hk4 rfl; have t2 : rX (zg C).2.2 h (fpS sh (f, rc, Ls)) sh (f, rc, lup (lup Ls 3 ((Ls 3).set (m).toNat (q3, (e3.1, e3.2.1, e3.2.2.1, ((x * ((100 - (ptsN S.1 (v) (m))) / 4) + e3.2.2.2.1) % 100), e3.2.2.2.2)))) 3 (((Ls 3).set (m).toNat (q3, (e3.1, e3.2.1, e3.2.2.1, ((x * ((100 - (ptsN S.1 (v) (m))) / 4) + e3.2.2.2.1) % 100), e3.2.2.2.2))).set (m).toNat (q3, (e3.1, e3.2.1, (e3.2.2.1 + x), ((x * ((100 - (ptsN S.1 (v) (m))) / 4) + e3.2.2.2.1) % 100), e3.2.2.2.2)))) _ := t; rw [lup_lup, set_set2] at t2; exact t2
    have hk5 : ((Ls 3).set (m).toNat (q3, (e3.1, e3.2.1, (e3.2.2.1 + x), ((x * ((100 - (ptsN S.1 (v) (m))) / 4) + e3.2.2.2.1) % 100), e3.2.2.2.2)))[(m).toNat]? = some (q3, (e3.1, e3.2.1, (e3.2.2.1 + x), ((x * ((100 - (ptsN S.1 (v) (m))) / 4) + e3.2.2.2.1) % 100), e3.2.2.2.2)) := set_at hk3
    refine z_aload_n (pc' := 64) X dX2_make_63 rfl rfl ?_
    refine z_get1 (pc' := 67) (kf := 13) X in_X2 rfl (by decide) q238 (Or.inl rfl) hX5.stA rfl dX2_make_64 rfl ?_
    refine z_iload_n (pc' := 68) X dX2_make_67 rfl rfl ?_
    obtain ⟨q6, e6, hk6⟩ := ELs.at (ps := Ls 2) (k := v) (by first | assumption | omega | (unfold rng; omega))
    have t6 := Tv2 _ _ _ hk6
    rw [Int.toNat_of_nonneg (by omega)] at t6
    have b6 := kc4 (v) (by omega) (by omega)
    refine z_rget (pc' := 73) X q549 hX5 (i := 2) (by decide) (j := v) hk6 (by first | assumption | omega | (unfold rng; omega)) dX2_make_68 rfl (by decide) (Nat.le_of_ble_eq_true rfl) (by omega) (by omega) (by show (Ls 2).length ≤ 1000; omega) ?_
    refine z_castS1 (pc' := 76) X (ci := 4) q380 rfl ⟨_, (hX5.el2 hk6)⟩ dX2_make_73 rfl ?_
    refine z_iload (pc' := 78) X dX2_make_76 rfl rfl ?_
    refine z_aload (pc' := 80) X dX2_make_78 rfl rfl ?_
    refine z_get1 (pc' := 83) (kf := 0) X in_X6 rfl (by decide) q418 (Or.inl rfl) (show h5 q3 = some (zO 5 [vR ((zg C).2.2 (e3.1).toNat), vI (e3.2.1), vI ((e3.2.2.1 + x)), vI (((x * ((100 - (ptsN S.1 (v) (m))) / 4) + e3.2.2.2.1) % 100))]) from hX5.el3 hk5) rfl dX2_make_80 rfl ?_
    refine z_szunits (z := e3.1) (pc' := 86) X q569 (by first | assumption | omega | (unfold rng; omega)) dX2_make_83 rfl (Nat.le_of_ble_eq_true rfl) (by omega) (by omega) (Nat.le_of_ble_eq_true rfl) ?_
    rw [show szU e3.1 = mZ (m % 3) by rw [t3.1, szU_mZ]]
    refine z_imul (pc' := 87) X dX2_make_86 rfl ?_
    refine z_callV1 (pc' := 90) X Y_X5_use q1373 dX2_make_87 rfl (Nat.le_of_ble_eq_true rfl) (by omega) (by omega) rfl rfl (Nat.le_of_ble_eq_true rfl) rfl ⟨_, (hX5.el2 hk6)⟩ (c_X5_use _ _ _ (q6) (e6.1) (e6.2.1) (e6.2.2.1) (hX5.el2 hk6) (((mkSomeN S.1 v m x) * (mZ (m % 3)))) (by first | assumption | omega | (unfold rng; omega))) (fun v7 h7 p7 => ?_)
    obtain ⟨ev7, e7⟩ := p7
    subst ev7
    dsimp only [zst]
    have hX7 : rX (zg C).2.2 h (fpS sh (f, rc, Ls)) sh (f, rc, (lup (lup Ls 3 ((Ls 3).set (m).toNat (q3, (e3.1, e3.2.1, (e3.2.2.1 + x), ((x * ((100 - (ptsN S.1 (v) (m))) / 4) + e3.2.2.2.1) % 100), e3.2.2.2.2)))) 2 ((Ls 2).set (v).toNat (q6, ((e6.1 - ((mkSomeN S.1 v m x) * (mZ (m % 3)))), (if e6.1 - ((mkSomeN S.1 v m x) * (mZ (m % 3))) = 0 then 0 else e6.2.1), (if e6.1 - ((mkSomeN S.1 v m x) * (mZ (m % 3))) = 0 then 0 else e6.2.2.1), e6.2.2.2.1, e6.2.2.2.2))))) h7 := by rw [e7]; have t := hX5.elem (i := 2) (e' := ((e6.1 - ((mkSomeN S.1 v m x) * (mZ (m % 3)))), (if e6.1 - ((mkSomeN S.1 v m x) * (mZ (m % 3))) = 0 then 0 else e6.2.1), (if e6.1 - ((mkSomeN S.1 v m x) * (mZ (m % 3))) = 0 then 0 else e6.2.2.1), e6.2.2.2.1, e6.2.2.2.2)) (by decide) hk6 rfl; exact t
    have hk7 : ((Ls 2).set (v).toNat (q6, ((e6.1 - ((mkSomeN S.1 v m x) * (mZ (m % 3)))), (if e6.1 - ((mkSomeN S.1 v m x) * (mZ (m % 3))) = 0 then 0 else e6.2.1), (if e6.1 - ((mkSomeN S.1 v m x) * (mZ (m % 3))) = 0 then 0 else e6.2.2.1), e6.2.2.2.1, e6.2.2.2.2)))[(v).toNat]? = some (q6, ((e6.1 - ((mkSomeN S.1 v m x) * (mZ (m % 3)))), (if e6.1 - ((mkSomeN S.1 v m x) * (mZ (m % 3))) = 0 then 0 else e6.2.1), (if e6.1 - ((mkSomeN S.1 v m x) * (mZ (m % 3))) = 0 then 0 else e6.2.2.1), e6.2.2.2.1, e6.2.2.2.2)) := set_at hk6
    refine z_iload (pc' := 92) X dX2_make_90 rfl rfl ?_
    refine z_if_le (tgt := 129) (pc' := 95) X (by first | assumption | omega | (unfold rng; omega)) dX2_make_92 rfl (by decide) (fun c92 => ?_) (fun c92 => ?_)
    · refine z_iload (pc' := 131) X dX2_make_129 rfl rfl ?_
      refine z_iret1 X dX2_make_131 (by omega) (by omega) ?_
      have tt := make_tie (q1 := 0) T hk hv hm ht (by omega) hk6 hk3 (ps := Ls 4) (Or.inl ⟨by omega, rfl⟩)
      refine ⟨by rw [if_pos (by omega)], sh, _, hX7, ?_⟩
      rw [show (if whySS S v m x = 0 then makeS v m x S else S) = makeS v m x S from if_pos (by omega)]
      rw [← lup_self (L := lup (lup Ls 3 _) 2 _) (i := 4)]
      rw [t6.1, t6.2.1, t6.2.2, t3.1, t3.2.2.1, t3.2.2.2]
      rw [t3.1] at tt
      exact tt
    · refine z_aload_n (pc' := 96) X dX2_make_95 rfl rfl ?_
      refine z_get1 (pc' := 99) (kf := 15) X in_X2 rfl (by decide) q242 (Or.inl rfl) hX7.stA rfl dX2_make_96 rfl ?_
      refine z_new1 (pc' := 102) X (ci := 8) (fs := [vI 0, Value.null, Value.null, vI 0, vI 0]) in_X10 tyX10 tyX10_ok q568 q678 q143 rfl df_X10 dX2_make_99 rfl (by omega) (by omega) (fun q8 h8 n8 e8 => ?_)
      have g8 := (congrFun e8 q8).trans hset_s
      have hX8 : rX (zg C).2.2 h (fpS sh (f, rc, Ls)) sh (f, rc, (lup (lup Ls 3 ((Ls 3).set (m).toNat (q3, (e3.1, e3.2.1, (e3.2.2.1 + x), ((x * ((100 - (ptsN S.1 (v) (m))) / 4) + e3.2.2.2.1) % 100), e3.2.2.2.2)))) 2 ((Ls 2).set (v).toNat (q6, ((e6.1 - ((mkSomeN S.1 v m x) * (mZ (m % 3)))), (if e6.1 - ((mkSomeN S.1 v m x) * (mZ (m % 3))) = 0 then 0 else e6.2.1), (if e6.1 - ((mkSomeN S.1 v m x) * (mZ (m % 3))) = 0 then 0 else e6.2.2.1), e6.2.2.2.1, e6.2.2.2.2))))) h8 := by rw [e8]; exact hX7.new n8
      refine z_dup (pc' := 103) X rfl dX2_make_102 rfl ?_
      refine z_aload (pc' := 105) X dX2_make_103 rfl rfl ?_
      refine z_get1 (pc' := 108) (kf := 1) X in_X6 rfl (by decide) q420 (Or.inl rfl) (show h8 q3 = some (zO 5 [vR ((zg C).2.2 (e3.1).toNat), vI (e3.2.1), vI ((e3.2.2.1 + x)), vI (((x * ((100 - (ptsN S.1 (v) (m))) / 4) + e3.2.2.2.1) % 100))]) from hX8.el3 hk5) rfl dX2_make_105 rfl ?_
      refine z_aload (pc' := 110) X dX2_make_108 rfl rfl ?_
      refine z_get1 (pc' := 113) (kf := 0) X in_X6 rfl (by decide) q418 (Or.inl rfl) (show h8 q3 = some (zO 5 [vR ((zg C).2.2 (e3.1).toNat), vI (e3.2.1), vI ((e3.2.2.1 + x)), vI (((x * ((100 - (ptsN S.1 (v) (m))) / 4) + e3.2.2.2.1) % 100))]) from hX8.el3 hk5) rfl dX2_make_110 rfl ?_
      refine z_iload (pc' := 115) X dX2_make_113 rfl rfl ?_
      refine z_callS0 (pc' := 118) X Y_X11_with q1348 dX2_make_115 rfl (Nat.le_of_ble_eq_true rfl) (by omega) (by omega) rfl rfl (Nat.le_of_ble_eq_true rfl) (c_X11_with _ _ _ ((ptsN S.1 (v) (m))) (by first | assumption | omega | (unfold rng; omega))) ?_
      dsimp only [zst]
      refine z_iload (pc' := 120) X dX2_make_118 rfl rfl ?_
      refine z_callI1 (pc' := 123) X Y_X10_init q1377 dX2_make_120 rfl (Nat.le_of_ble_eq_true rfl) (by omega) (by omega) rfl rfl (Nat.le_of_ble_eq_true rfl) (c_X10_init _ _ _ (q8) (((zg C).2.2 (e3.1).toNat)) (((zg C).2.2 (3 + ((grN (ptsN S.1 (v) (m)))).toNat))) (e3.2.1) ((mkSomeN S.1 v m x)) g8) (fun v10 h10 p10 => ?_)
      obtain ⟨ev10, p10⟩ := p10
      subst ev10
      dsimp only [zst]
      have e10 := p10.trans (by rw [e8, hset_hset])
      have g10 := (congrFun e10 q8).trans hset_s
      have hX10 : rX (zg C).2.2 h (fpS sh (f, rc, Ls)) sh (f, rc, (lup (lup Ls 3 ((Ls 3).set (m).toNat (q3, (e3.1, e3.2.1, (e3.2.2.1 + x), ((x * ((100 - (ptsN S.1 (v) (m))) / 4) + e3.2.2.2.1) % 100), e3.2.2.2.2)))) 2 ((Ls 2).set (v).toNat (q6, ((e6.1 - ((mkSomeN S.1 v m x) * (mZ (m % 3)))), (if e6.1 - ((mkSomeN S.1 v m x) * (mZ (m % 3))) = 0 then 0 else e6.2.1), (if e6.1 - ((mkSomeN S.1 v m x) * (mZ (m % 3))) = 0 then 0 else e6.2.2.1), e6.2.2.2.1, e6.2.2.2.2))))) h10 := by rw [e10]; exact hX7.new n8
      refine z_radd (pc' := 128) X q299 hX10 (i := 4) (by decide) (q := q8) (e := (e3.2.1, e3.1, (grN (ptsN S.1 (v) (m))), (mkSomeN S.1 v m x), 0)) g10 (fun _ => hX7.fresh n8 (by decide)) (fun _ => Or.inr (hX7.2.1.1 _ n8)) (by show (Ls 4).length ≤ 40; omega) dX2_make_123 rfl (by decide) (Nat.le_of_ble_eq_true rfl) (by omega) (by omega) (fun h11 ar11 hX11 hf11 => ?_)
      obtain ⟨arf11, harf11⟩ : ∃ x : Nat → Option Nat, x = aup sh.2.2 4 ar11 := ⟨_, rfl⟩
      have hZ11 : rX (zg C).2.2 h (fpS sh (f, rc, Ls)) (sh.1, sh.2.1, arf11) (f, rc, (lup (lup (lup Ls 3 ((Ls 3).set (m).toNat (q3, (e3.1, e3.2.1, (e3.2.2.1 + x), ((x * ((100 - (ptsN S.1 (v) (m))) / 4) + e3.2.2.2.1) % 100), e3.2.2.2.2)))) 2 ((Ls 2).set (v).toNat (q6, ((e6.1 - ((mkSomeN S.1 v m x) * (mZ (m % 3)))), (if e6.1 - ((mkSomeN S.1 v m x) * (mZ (m % 3))) = 0 then 0 else e6.2.1), (if e6.1 - ((mkSomeN S.1 v m x) * (mZ (m % 3))) = 0 then 0 else e6.2.2.1), e6.2.2.2.1, e6.2.2.2.2)))) 4 (Ls 4 ++ [(q8, (e3.2.1, e3.1, (grN (ptsN S.1 (v) (m))), (mkSomeN S.1 v m x), 0))]))) h11 := by rw [harf11]; exact hX11
      have fa12 := hX10.lsk (i := 4) (by decide) hf11 g10 (by decide)
      refine z_pop (pc' := 129) X rfl dX2_make_128 rfl ?_
      refine z_iload (pc' := 131) X dX2_make_129 rfl rfl ?_
      refine z_iret1 X dX2_make_131 (by omega) (by omega) ?_
      have tt := make_tie (q1 := q8) T hk hv hm ht (by omega) hk6 hk3 (Or.inr ⟨by omega, rfl⟩)
      refine ⟨by rw [if_pos (by omega)], (sh.1, sh.2.1, arf11), _, hZ11, ?_⟩
      rw [show (if whySS S v m x = 0 then makeS v m x S else S) = makeS v m x S from if_pos (by omega)]
      rw [t6.1, t6.2.1, t6.2.2, t3.1, t3.2.1, t3.2.2.1, t3.2.2.2, hgr]
      rw [t3.1, t3.2.1] at tt
      exact tt
  · refine z_iconst (pc' := 11) X dX2_make_10 rfl ?_
    refine z_iret1 X dX2_make_11 (by omega) (by omega) ?_
    exact ⟨by rw [if_neg (by omega)], sh, Ls, hX1, by rw [if_neg (by omega)]; exact T⟩
end ZS14

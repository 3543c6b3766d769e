/-! THE STATE: whyNotIn, whyNotMade -/
section ZLAM8
theorem stE_aq {t n : Nat} {f : Nat → Option Nat} (ht : t ≠ 14) : ¬ stE (zAq t n f) := by
  rintro (⟨ci, fs, h, -⟩ | ⟨n', f', h⟩)
  · have h : zAq _ _ _ = zO ci fs := h
    cases h
  · have h : zAq t n f = zAq 14 n' f' := h
    cases h
    exact ht rfl
theorem hset_la {h : GH} {q a i : Nat} {vs : List Value} {arr : Nat × vp_A} {c : zE} (hq : h q = some (zLm i vs)) (ha : h a = some (.inl arr)) : hset h a c q = some (zLm i vs) := by
  rw [hset_n fun hh => by rw [hh, ha] at hq; cases hq]
  exact hq
theorem bI_01 {b : Prop} [Decidable b] : bI b = 0 ∨ bI b = 1 := by
  unfold bI
  split
  · exact Or.inr rfl
  · exact Or.inl rfl
theorem fst_3 {b : Nat → Int} : fstN b 3 3 = if b 0 = 0 then if b 1 = 0 then if b 2 = 0 then 0 else 3 else 2 else 1 := rfl
theorem fst_5 {b : Nat → Int} : fstN b 5 5 = if b 0 = 0 then if b 1 = 0 then if b 2 = 0 then if b 3 = 0 then if b 4 = 0 then 0 else 5 else 4 else 3 else 2 else 1 := rfl
theorem bI_ite {α : Type} {b : Prop} [Decidable b] {x y : α} : (if bI b = 0 then x else y) = if b then y else x := by
  by_cases h : b
  · rw [bI_t h, if_neg (by decide), if_pos h]
  · rw [bI_f h, if_pos rfl, if_neg h]
def pick3 (a b c : Int) (k : Nat) : Int := if k = 0 then a else if k = 1 then b else c
def pick5 (a b c d e : Int) (k : Nat) : Int := if k = 0 then a else if k = 1 then b else if k = 2 then c else if k = 3 then d else e
theorem Y_X2_whyNotIn : zYV yX2_whyNotIn cX2_whyNotIn 5 (some .int) 3 := ⟨⟨q1231, q1232, q113, q1233⟩, by decide +kernel, by decide⟩
set_option maxRecDepth 100000 in
theorem c_X2_whyNotIn (l : Launch) (g : zG) (h : GH) (sh : Sh) (f : Int → Int) (rc : Nat) (Ls : Nat → ELs) (S : St) (w : rW g.2.2 h sh (f, rc, Ls)) (T : tie f Ls S) (hk : okY S) (c x z : Int) (hc : 0 ≤ c ∧ c < 4) (hx : 10 ≤ x ∧ x ≤ 300) (hz : 0 ≤ z ∧ z ≤ 99) : zMet l yX2_whyNotIn cX2_whyNotIn 5 (some .int) 80 4 9 [vR sh.1, vI c, vI x, vI z] g h (fun r h' => r = some (vI (whyInS S c x z)) ∧ hF h noF h') := by
  refine zMet.mkN (L0 := [some (vR sh.1), some (vI c), some (vI x), some (vI z), none]) (by decide) rfl (Nat.le_of_ble_eq_true rfl) rfl (fun C hg hl hnm X => ?_)
  subst hg hl
  have hX := w.start
  obtain ⟨T0, ⟨Tc, Tc2⟩, ⟨Tb, Tb1, Tb2⟩, ⟨Tv, Tv2⟩, ⟨Tm, Tm2⟩, ⟨Tp, Tp1, Tp2⟩, ⟨Tr, Tr1⟩, Ta, Tz⟩ := id T
  obtain ⟨⟨⟨kc1a, kc1b, kc1c, kc1d, kc1e⟩, kc2, kc3, kc4, kc5⟩, kb, kp, kq⟩ := id hk
  obtain ⟨Tl1, Tl4, Tl5⟩ := T.lens
  have z0 := T0 0 (by omega)
  have z1 := T0 1 (by omega)
  have z2 := T0 2 (by omega)
  have z3 := T0 3 (by omega)
  refine z_iconst (pc' := 1) X dX2_whyNotIn_0 rfl ?_
  refine z_newq1 (pc' := 4) X (N := 3) (t := 16) (t0 := 6) (fun _ => rfl) q1235 q1234 (by first | decide | omega) dX2_whyNotIn_1 rfl (Nat.le_of_ble_eq_true rfl) (Nat.le_of_ble_eq_true rfl) (fun q1 h1 n1 e1 => ?_)
  have g1 := (congrFun e1 q1).trans hset_s
  have w1 : hF h noF h1 := by rw [e1]; exact hF.rf.new n1
  have hX1 : rX (zg C).2.2 h (fpS sh (f, rc, Ls)) sh (f, rc, Ls) h1 := by rw [e1]; exact hX.new n1
  have hnq : h q1 = none := n1
  refine z_dup (pc' := 5) X rfl dX2_whyNotIn_4 rfl ?_
  refine z_iconst (pc' := 6) X dX2_whyNotIn_5 rfl ?_
  refine z_aload_n (pc' := 7) X dX2_whyNotIn_6 rfl rfl ?_
  refine z_indy (pc' := 12) (i := 2) X hnm lams2 lamok2 (vs := [vR sh.1]) dX2_whyNotIn_7 rfl rfl rfl rfl rfl rfl (Nat.le_of_ble_eq_true rfl) (by decide) (Nat.le_of_ble_eq_true rfl) (Nat.le_of_ble_eq_true rfl) (fun q2 h2 n2 e2 => ?_)
  have g2 := (congrFun e2 q2).trans hset_s
  have fa3 := (congrFun e2 _).trans (hset_f g1 n2)
  have w2 : hF h noF h2 := by rw [e2]; exact w1.new n2
  have hX2 : rX (zg C).2.2 h (fpS sh (f, rc, Ls)) sh (f, rc, Ls) h2 := by rw [e2]; exact hX1.new n2
  refine z_aastL1 (pc' := 13) X lams2 (t0 := 6) (fun _ => rfl) fa3 g2 (by decide) (by decide) dX2_whyNotIn_12 rfl (fun h4 e4 => ?_)
  have g4 := (congrFun e4 q1).trans hset_s
  have fa5 := (congrFun e4 _).trans (hset_la g2 fa3)
  have w4 : hF h noF h4 := by rw [e4]; exact w2.set (Or.inr hnq)
  have hX4 : rX (zg C).2.2 h (fpS sh (f, rc, Ls)) sh (f, rc, Ls) h4 := by rw [e4]; exact hX2.wr fa3 (stE_aq (by decide)) (Or.inr (hX.2.1.1 _ n1))
  refine z_dup (pc' := 14) X rfl dX2_whyNotIn_13 rfl ?_
  refine z_iconst (pc' := 15) X dX2_whyNotIn_14 rfl ?_
  refine z_aload_n (pc' := 16) X dX2_whyNotIn_15 rfl rfl ?_
  refine z_iload_n (pc' := 17) X dX2_whyNotIn_16 rfl rfl ?_
  refine z_indy (pc' := 22) (i := 3) X hnm lams3 lamok3 (vs := [vR sh.1, vI (z)]) dX2_whyNotIn_17 rfl rfl rfl rfl rfl rfl (Nat.le_of_ble_eq_true rfl) (by decide) (Nat.le_of_ble_eq_true rfl) (Nat.le_of_ble_eq_true rfl) (fun q6 h6 n6 e6 => ?_)
  have g6 := (congrFun e6 q6).trans hset_s
  have fa7 := (congrFun e6 _).trans (hset_f g4 n6)
  have fa8 := (congrFun e6 _).trans (hset_f fa5 n6)
  have w6 : hF h noF h6 := by rw [e6]; exact w4.new n6
  have hX6 : rX (zg C).2.2 h (fpS sh (f, rc, Ls)) sh (f, rc, Ls) h6 := by rw [e6]; exact hX4.new n6
  refine z_aastL1 (pc' := 23) X lams3 (t0 := 6) (fun _ => rfl) fa7 g6 (by decide) (by decide) dX2_whyNotIn_22 rfl (fun h9 e9 => ?_)
  have g9 := (congrFun e9 q1).trans hset_s
  have fa10 := (congrFun e9 _).trans (hset_la fa8 fa7)
  have fa11 := (congrFun e9 _).trans (hset_la g6 fa7)
  have w9 : hF h noF h9 := by rw [e9]; exact w6.set (Or.inr hnq)
  have hX9 : rX (zg C).2.2 h (fpS sh (f, rc, Ls)) sh (f, rc, Ls) h9 := by rw [e9]; exact hX6.wr fa7 (stE_aq (by decide)) (Or.inr (hX.2.1.1 _ n1))
  refine z_dup (pc' := 24) X rfl dX2_whyNotIn_23 rfl ?_
  refine z_iconst (pc' := 25) X dX2_whyNotIn_24 rfl ?_
  refine z_aload_n (pc' := 26) X dX2_whyNotIn_25 rfl rfl ?_
  refine z_iload_n (pc' := 27) X dX2_whyNotIn_26 rfl rfl ?_
  refine z_iload_n (pc' := 28) X dX2_whyNotIn_27 rfl rfl ?_
  refine z_indy (pc' := 33) (i := 4) X hnm lams4 lamok4 (vs := [vR sh.1, vI (c), vI (x)]) dX2_whyNotIn_28 rfl rfl rfl rfl rfl rfl (Nat.le_of_ble_eq_true rfl) (by decide) (Nat.le_of_ble_eq_true rfl) (Nat.le_of_ble_eq_true rfl) (fun q12 h12 n12 e12 => ?_)
  have g12 := (congrFun e12 q12).trans hset_s
  have fa13 := (congrFun e12 _).trans (hset_f g9 n12)
  have fa14 := (congrFun e12 _).trans (hset_f fa10 n12)
  have fa15 := (congrFun e12 _).trans (hset_f fa11 n12)
  have w12 : hF h noF h12 := by rw [e12]; exact w9.new n12
  have hX12 : rX (zg C).2.2 h (fpS sh (f, rc, Ls)) sh (f, rc, Ls) h12 := by rw [e12]; exact hX9.new n12
  refine z_aastL1 (pc' := 34) X lams4 (t0 := 6) (fun _ => rfl) fa13 g12 (by decide) (by decide) dX2_whyNotIn_33 rfl (fun h16 e16 => ?_)
  have g16 := (congrFun e16 q1).trans hset_s
  have fa17 := (congrFun e16 _).trans (hset_la fa14 fa13)
  have fa18 := (congrFun e16 _).trans (hset_la fa15 fa13)
  have fa19 := (congrFun e16 _).trans (hset_la g12 fa13)
  have w16 : hF h noF h16 := by rw [e16]; exact w12.set (Or.inr hnq)
  have hX16 : rX (zg C).2.2 h (fpS sh (f, rc, Ls)) sh (f, rc, Ls) h16 := by rw [e16]; exact hX12.wr fa13 (stE_aq (by decide)) (Or.inr (hX.2.1.1 _ n1))
  refine z_astore (pc' := 36) X dX2_whyNotIn_34 rfl (by decide) rfl ?_
  dsimp only [List.set]
  refine z_aload (pc' := 38) X dX2_whyNotIn_36 rfl rfl ?_
  refine z_callSN0 (pc' := 41) X Y_X1_first q1257 dX2_whyNotIn_38 rfl (Nat.le_of_ble_eq_true rfl) (Nat.le_of_ble_eq_true rfl) (Nat.le_of_ble_eq_true rfl) rfl rfl (Nat.le_of_ble_eq_true rfl) (c_X1_first _ _ _ 10 3 q1 (fup (fup (fup (fun _ => none) (0 : Int).toNat (some q2)) (1 : Int).toNat (some q6)) (2 : Int).toNat (some q12)) (pick3 (bI (S.2.1.length = 24)) (bI (S.1 3 < z)) (bI (300 < S.1 (13 + 2 * c) + tollS S c x))) g16 (by decide) (fun k9 hk9 => by match k9, hk9 with | 0, _ => exact ⟨q2, rfl, ⟨bI_01, 2, _, _, _, _, _, _, _, _, _, _, lams2, lamok2, by decide, by decide +kernel, fa17, lamL2 _ _ _ _ _ (by decide) sh (f) rc (Ls) S hX16.1 T hk fa17 hX16.stA⟩⟩ | 1, _ => exact ⟨q6, rfl, ⟨bI_01, 3, _, _, _, _, _, _, _, _, _, _, lams3, lamok3, by decide, by decide +kernel, fa18, lamL3 _ _ _ _ _ (by decide) sh (f) rc (Ls) S hX16.1 T hk z (by omega) fa18 hX16.stA⟩⟩ | 2, _ => exact ⟨q12, rfl, ⟨bI_01, 4, _, _, _, _, _, _, _, _, _, _, lams4, lamok4, by decide, by decide +kernel, fa19, lamL4 _ _ _ _ _ (by decide) sh (f) rc (Ls) S hX16.1 T hk c x hc (by omega) fa19 hX16.stA⟩⟩ | j9 + 3, hj9 => exact absurd hj9 (by omega))) ?_
  dsimp only [zst]
  refine z_iret1 X dX2_whyNotIn_41 (Nat.le_of_ble_eq_true rfl) (Nat.le_of_ble_eq_true rfl) ?_
  refine ⟨?_, w16⟩
  rw [fst_3]
  show some (vI (if bI (S.2.1.length = 24) = 0 then if bI (S.1 3 < z) = 0 then if bI (300 < S.1 (13 + 2 * c) + tollS S c x) = 0 then 0 else 3 else 2 else 1)) = _
  rw [bI_ite, bI_ite, bI_ite]
  rfl
theorem Y_X2_whyNotMade : zYV yX2_whyNotMade cX2_whyNotMade 7 (some .int) 3 := ⟨⟨q1325, q1326, q113, q1327⟩, by decide +kernel, by decide⟩
set_option maxRecDepth 100000 in
theorem c_X2_whyNotMade (l : Launch) (g : zG) (h : GH) (sh : Sh) (f : Int → Int) (rc : Nat) (Ls : Nat → ELs) (S : St) (w : rW g.2.2 h sh (f, rc, Ls)) (T : tie f Ls S) (hk : okY S) (v m t : Int) (hv : 0 ≤ v ∧ v < 3) (hm : 0 ≤ m ∧ m < 5) (ht : 1 ≤ t ∧ t ≤ 480) : zMet l yX2_whyNotMade cX2_whyNotMade 7 (some .int) 80 6 15 [vR sh.1, vI v, vI m, vI t] g h (fun r h' => r = some (vI (whySS S v m t)) ∧ hF h noF h') := by
  refine zMet.mkN (L0 := [some (vR sh.1), some (vI v), some (vI m), some (vI t), none, none, none]) (by decide) rfl (Nat.le_of_ble_eq_true rfl) rfl (fun C hg hl hnm X => ?_)
  subst hg hl
  have hX := w.start
  obtain ⟨T0, ⟨Tc, Tc2⟩, ⟨Tb, Tb1, Tb2⟩, ⟨Tv, Tv2⟩, ⟨Tm, Tm2⟩, ⟨Tp, Tp1, Tp2⟩, ⟨Tr, Tr1⟩, Ta, Tz⟩ := id T
  obtain ⟨⟨⟨kc1a, kc1b, kc1c, kc1d, kc1e⟩, kc2, kc3, kc4, kc5⟩, kb, kp, kq⟩ := id hk
  obtain ⟨Tl1, Tl4, Tl5⟩ := T.lens
  have z0 := T0 0 (by omega)
  have z1 := T0 1 (by omega)
  have z2 := T0 2 (by omega)
  have z3 := T0 3 (by omega)
  refine z_aload_n (pc' := 1) X dX2_whyNotMade_0 rfl rfl ?_
  refine z_get1 (pc' := 4) (kf := 13) X in_X2 rfl (by decide) q238 (Or.inl rfl) hX.stA rfl dX2_whyNotMade_1 rfl ?_
  refine z_iload_n (pc' := 5) X dX2_whyNotMade_4 rfl rfl ?_
  obtain ⟨q1, e1, hk1⟩ := ELs.at (ps := Ls 2) (k := v) (by first | assumption | omega | exact bI_rng2)
  have t1 := Tv2 _ _ _ hk1
  rw [Int.toNat_of_nonneg (by omega)] at t1
  have b1 := kc4 (v) (by omega) (by omega)
  refine z_rget (pc' := 10) X q549 hX (i := 2) (by decide) (j := v) hk1 (by first | assumption | omega | exact bI_rng2) dX2_whyNotMade_5 rfl (by decide) (Nat.le_of_ble_eq_true rfl) (Nat.le_of_ble_eq_true rfl) (Nat.le_of_ble_eq_true rfl) (by show (Ls 2).length ≤ 1000; omega) ?_
  refine z_castS1 (pc' := 13) X (ci := 4) q380 rfl ⟨_, (hX.el2 hk1)⟩ dX2_whyNotMade_10 rfl ?_
  refine z_astore (pc' := 15) X dX2_whyNotMade_13 rfl (by decide) rfl ?_
  dsimp only [List.set]
  refine z_aload_n (pc' := 16) X dX2_whyNotMade_15 rfl rfl ?_
  refine z_get1 (pc' := 19) (kf := 14) X in_X2 rfl (by decide) q240 (Or.inl rfl) hX.stA rfl dX2_whyNotMade_16 rfl ?_
  refine z_iload_n (pc' := 20) X dX2_whyNotMade_19 rfl rfl ?_
  obtain ⟨q2, e2, hk2⟩ := ELs.at (ps := Ls 3) (k := m) (by first | assumption | omega | exact bI_rng2)
  have t2 := Tm2 _ _ _ hk2
  rw [Int.toNat_of_nonneg (by omega)] at t2
  have b2 := kc5 (m) (by omega) (by omega)
  refine z_rget (pc' := 25) X q549 hX (i := 3) (by decide) (j := m) hk2 (by first | assumption | omega | exact bI_rng2) dX2_whyNotMade_20 rfl (by decide) (Nat.le_of_ble_eq_true rfl) (Nat.le_of_ble_eq_true rfl) (Nat.le_of_ble_eq_true rfl) (by show (Ls 3).length ≤ 1000; omega) ?_
  refine z_castS1 (pc' := 28) X (ci := 5) q402 rfl ⟨_, (hX.el3 hk2)⟩ dX2_whyNotMade_25 rfl ?_
  refine z_astore (pc' := 30) X dX2_whyNotMade_28 rfl (by decide) rfl ?_
  dsimp only [List.set]
  refine z_iconst (pc' := 31) X dX2_whyNotMade_30 rfl ?_
  refine z_newq1 (pc' := 34) X (N := 5) (t := 16) (t0 := 6) (fun _ => rfl) q1235 q1234 (by first | decide | omega) dX2_whyNotMade_31 rfl (Nat.le_of_ble_eq_true rfl) (Nat.le_of_ble_eq_true rfl) (fun q3 h3 n3 e3 => ?_)
  have g3 := (congrFun e3 q3).trans hset_s
  have w3 : hF h noF h3 := by rw [e3]; exact hF.rf.new n3
  have hX3 : rX (zg C).2.2 h (fpS sh (f, rc, Ls)) sh (f, rc, Ls) h3 := by rw [e3]; exact hX.new n3
  have hnq : h q3 = none := n3
  refine z_dup (pc' := 35) X rfl dX2_whyNotMade_34 rfl ?_
  refine z_iconst (pc' := 36) X dX2_whyNotMade_35 rfl ?_
  refine z_aload (pc' := 38) X dX2_whyNotMade_36 rfl rfl ?_
  refine z_indy (pc' := 43) (i := 8) X hnm lams8 lamok8 (vs := [vR q1]) dX2_whyNotMade_38 rfl rfl rfl rfl rfl rfl (Nat.le_of_ble_eq_true rfl) (by decide) (Nat.le_of_ble_eq_true rfl) (Nat.le_of_ble_eq_true rfl) (fun q4 h4 n4 e4 => ?_)
  have g4 := (congrFun e4 q4).trans hset_s
  have fa5 := (congrFun e4 _).trans (hset_f g3 n4)
  have w4 : hF h noF h4 := by rw [e4]; exact w3.new n4
  have hX4 : rX (zg C).2.2 h (fpS sh (f, rc, Ls)) sh (f, rc, Ls) h4 := by rw [e4]; exact hX3.new n4
  refine z_aastL1 (pc' := 44) X lams8 (t0 := 6) (fun _ => rfl) fa5 g4 (by decide) (by decide) dX2_whyNotMade_43 rfl (fun h6 e6 => ?_)
  have g6 := (congrFun e6 q3).trans hset_s
  have fa7 := (congrFun e6 _).trans (hset_la g4 fa5)
  have w6 : hF h noF h6 := by rw [e6]; exact w4.set (Or.inr hnq)
  have hX6 : rX (zg C).2.2 h (fpS sh (f, rc, Ls)) sh (f, rc, Ls) h6 := by rw [e6]; exact hX4.wr fa5 (stE_aq (by decide)) (Or.inr (hX.2.1.1 _ n3))
  refine z_dup (pc' := 45) X rfl dX2_whyNotMade_44 rfl ?_
  refine z_iconst (pc' := 46) X dX2_whyNotMade_45 rfl ?_
  refine z_iload_n (pc' := 47) X dX2_whyNotMade_46 rfl rfl ?_
  refine z_aload (pc' := 49) X dX2_whyNotMade_47 rfl rfl ?_
  refine z_aload (pc' := 51) X dX2_whyNotMade_49 rfl rfl ?_
  refine z_indy (pc' := 56) (i := 9) X hnm lams9 lamok9 (vs := [vI (t), vR q2, vR q1]) dX2_whyNotMade_51 rfl rfl rfl rfl rfl rfl (Nat.le_of_ble_eq_true rfl) (by decide) (Nat.le_of_ble_eq_true rfl) (Nat.le_of_ble_eq_true rfl) (fun q8 h8 n8 e8 => ?_)
  have g8 := (congrFun e8 q8).trans hset_s
  have fa9 := (congrFun e8 _).trans (hset_f g6 n8)
  have fa10 := (congrFun e8 _).trans (hset_f fa7 n8)
  have w8 : hF h noF h8 := by rw [e8]; exact w6.new n8
  have hX8 : rX (zg C).2.2 h (fpS sh (f, rc, Ls)) sh (f, rc, Ls) h8 := by rw [e8]; exact hX6.new n8
  refine z_aastL1 (pc' := 57) X lams9 (t0 := 6) (fun _ => rfl) fa9 g8 (by decide) (by decide) dX2_whyNotMade_56 rfl (fun h11 e11 => ?_)
  have g11 := (congrFun e11 q3).trans hset_s
  have fa12 := (congrFun e11 _).trans (hset_la fa10 fa9)
  have fa13 := (congrFun e11 _).trans (hset_la g8 fa9)
  have w11 : hF h noF h11 := by rw [e11]; exact w8.set (Or.inr hnq)
  have hX11 : rX (zg C).2.2 h (fpS sh (f, rc, Ls)) sh (f, rc, Ls) h11 := by rw [e11]; exact hX8.wr fa9 (stE_aq (by decide)) (Or.inr (hX.2.1.1 _ n3))
  refine z_dup (pc' := 58) X rfl dX2_whyNotMade_57 rfl ?_
  refine z_iconst (pc' := 59) X dX2_whyNotMade_58 rfl ?_
  refine z_aload (pc' := 61) X dX2_whyNotMade_59 rfl rfl ?_
  refine z_iload_n (pc' := 62) X dX2_whyNotMade_61 rfl rfl ?_
  refine z_indy (pc' := 67) (i := 10) X hnm lams10 lamok10 (vs := [vR q2, vI (t)]) dX2_whyNotMade_62 rfl rfl rfl rfl rfl rfl (Nat.le_of_ble_eq_true rfl) (by decide) (Nat.le_of_ble_eq_true rfl) (Nat.le_of_ble_eq_true rfl) (fun q14 h14 n14 e14 => ?_)
  have g14 := (congrFun e14 q14).trans hset_s
  have fa15 := (congrFun e14 _).trans (hset_f g11 n14)
  have fa16 := (congrFun e14 _).trans (hset_f fa12 n14)
  have fa17 := (congrFun e14 _).trans (hset_f fa13 n14)
  have w14 : hF h noF h14 := by rw [e14]; exact w11.new n14
  have hX14 : rX (zg C).2.2 h (fpS sh (f, rc, Ls)) sh (f, rc, Ls) h14 := by rw [e14]; exact hX11.new n14
  refine z_aastL1 (pc' := 68) X lams10 (t0 := 6) (fun _ => rfl) fa15 g14 (by decide) (by decide) dX2_whyNotMade_67 rfl (fun h18 e18 => ?_)
  have g18 := (congrFun e18 q3).trans hset_s
  have fa19 := (congrFun e18 _).trans (hset_la fa16 fa15)
  have fa20 := (congrFun e18 _).trans (hset_la fa17 fa15)
  have fa21 := (congrFun e18 _).trans (hset_la g14 fa15)
  have w18 : hF h noF h18 := by rw [e18]; exact w14.set (Or.inr hnq)
  have hX18 : rX (zg C).2.2 h (fpS sh (f, rc, Ls)) sh (f, rc, Ls) h18 := by rw [e18]; exact hX14.wr fa15 (stE_aq (by decide)) (Or.inr (hX.2.1.1 _ n3))
  refine z_dup (pc' := 69) X rfl dX2_whyNotMade_68 rfl ?_
  refine z_iconst (pc' := 70) X dX2_whyNotMade_69 rfl ?_
  refine z_aload_n (pc' := 71) X dX2_whyNotMade_70 rfl rfl ?_
  refine z_indy (pc' := 76) (i := 11) X hnm lams11 lamok11 (vs := [vR sh.1]) dX2_whyNotMade_71 rfl rfl rfl rfl rfl rfl (Nat.le_of_ble_eq_true rfl) (by decide) (Nat.le_of_ble_eq_true rfl) (Nat.le_of_ble_eq_true rfl) (fun q22 h22 n22 e22 => ?_)
  have g22 := (congrFun e22 q22).trans hset_s
  have fa23 := (congrFun e22 _).trans (hset_f g18 n22)
  have fa24 := (congrFun e22 _).trans (hset_f fa19 n22)
  have fa25 := (congrFun e22 _).trans (hset_f fa20 n22)
  have fa26 := (congrFun e22 _).trans (hset_f fa21 n22)
  have w22 : hF h noF h22 := by rw [e22]; exact w18.new n22
  have hX22 : rX (zg C).2.2 h (fpS sh (f, rc, Ls)) sh (f, rc, Ls) h22 := by rw [e22]; exact hX18.new n22
  refine z_aastL1 (pc' := 77) X lams11 (t0 := 6) (fun _ => rfl) fa23 g22 (by decide) (by decide) dX2_whyNotMade_76 rfl (fun h27 e27 => ?_)
  have g27 := (congrFun e27 q3).trans hset_s
  have fa28 := (congrFun e27 _).trans (hset_la fa24 fa23)
  have fa29 := (congrFun e27 _).trans (hset_la fa25 fa23)
  have fa30 := (congrFun e27 _).trans (hset_la fa26 fa23)
  have fa31 := (congrFun e27 _).trans (hset_la g22 fa23)
  have w27 : hF h noF h27 := by rw [e27]; exact w22.set (Or.inr hnq)
  have hX27 : rX (zg C).2.2 h (fpS sh (f, rc, Ls)) sh (f, rc, Ls) h27 := by rw [e27]; exact hX22.wr fa23 (stE_aq (by decide)) (Or.inr (hX.2.1.1 _ n3))
  refine z_dup (pc' := 78) X rfl dX2_whyNotMade_77 rfl ?_
  refine z_iconst (pc' := 79) X dX2_whyNotMade_78 rfl ?_
  refine z_aload_n (pc' := 80) X dX2_whyNotMade_79 rfl rfl ?_
  refine z_iload_n (pc' := 81) X dX2_whyNotMade_80 rfl rfl ?_
  refine z_iload_n (pc' := 82) X dX2_whyNotMade_81 rfl rfl ?_
  refine z_indy (pc' := 87) (i := 12) X hnm lams12 lamok12 (vs := [vR sh.1, vI (v), vI (m)]) dX2_whyNotMade_82 rfl rfl rfl rfl rfl rfl (Nat.le_of_ble_eq_true rfl) (by decide) (Nat.le_of_ble_eq_true rfl) (Nat.le_of_ble_eq_true rfl) (fun q32 h32 n32 e32 => ?_)
  have g32 := (congrFun e32 q32).trans hset_s
  have fa33 := (congrFun e32 _).trans (hset_f g27 n32)
  have fa34 := (congrFun e32 _).trans (hset_f fa28 n32)
  have fa35 := (congrFun e32 _).trans (hset_f fa29 n32)
  have fa36 := (congrFun e32 _).trans (hset_f fa30 n32)
  have fa37 := (congrFun e32 _).trans (hset_f fa31 n32)
  have w32 : hF h noF h32 := by rw [e32]; exact w27.new n32
  have hX32 : rX (zg C).2.2 h (fpS sh (f, rc, Ls)) sh (f, rc, Ls) h32 := by rw [e32]; exact hX27.new n32
  refine z_aastL1 (pc' := 88) X lams12 (t0 := 6) (fun _ => rfl) fa33 g32 (by decide) (by decide) dX2_whyNotMade_87 rfl (fun h38 e38 => ?_)
  have g38 := (congrFun e38 q3).trans hset_s
  have fa39 := (congrFun e38 _).trans (hset_la fa34 fa33)
  have fa40 := (congrFun e38 _).trans (hset_la fa35 fa33)
  have fa41 := (congrFun e38 _).trans (hset_la fa36 fa33)
  have fa42 := (congrFun e38 _).trans (hset_la fa37 fa33)
  have fa43 := (congrFun e38 _).trans (hset_la g32 fa33)
  have w38 : hF h noF h38 := by rw [e38]; exact w32.set (Or.inr hnq)
  have hX38 : rX (zg C).2.2 h (fpS sh (f, rc, Ls)) sh (f, rc, Ls) h38 := by rw [e38]; exact hX32.wr fa33 (stE_aq (by decide)) (Or.inr (hX.2.1.1 _ n3))
  refine z_astore (pc' := 90) X dX2_whyNotMade_88 rfl (by decide) rfl ?_
  dsimp only [List.set]
  refine z_aload (pc' := 92) X dX2_whyNotMade_90 rfl rfl ?_
  refine z_callSN0 (pc' := 95) X Y_X1_first q1257 dX2_whyNotMade_92 rfl (Nat.le_of_ble_eq_true rfl) (Nat.le_of_ble_eq_true rfl) (Nat.le_of_ble_eq_true rfl) rfl rfl (Nat.le_of_ble_eq_true rfl) (c_X1_first _ _ _ 10 5 q3 (fup (fup (fup (fup (fup (fun _ => none) (0 : Int).toNat (some q4)) (1 : Int).toNat (some q8)) (2 : Int).toNat (some q14)) (3 : Int).toNat (some q22)) (4 : Int).toNat (some q32)) (pick5 (bI (S.1 (117 + 3 * v) = 0)) (bI (S.1 (117 + 3 * v) < t * mZ (m % 3))) (bI (2000 < S.1 (126 + 3 * m + 1) + t)) (bI (S.2.2.1.length = 12)) (bI (ptsN S.1 v m < 30))) g38 (by decide) (fun k9 hk9 => by match k9, hk9 with | 0, _ => exact ⟨q4, rfl, ⟨bI_01, 8, _, _, _, _, _, _, _, _, _, _, lams8, lamok8, by decide, by decide +kernel, fa39, (by have := lamL8 C.2.1 (zg C) h38 10 _ (by decide) q1 e1.1 e1.2.1 e1.2.2.1 (hX38.el2 hk1) (by omega) fa39; rw [t1.1] at this; exact this)⟩⟩ | 1, _ => exact ⟨q8, rfl, ⟨bI_01, 9, _, _, _, _, _, _, _, _, _, _, lams9, lamok9, by decide, by decide +kernel, fa40, (by have := lamL9 C.2.1 (zg C) h38 10 _ (by decide) q1 q2 e1.1 e1.2.1 e1.2.2.1 e2.1 e2.2.1 e2.2.2.1 e2.2.2.2.1 t (hX38.el2 hk1) (hX38.el3 hk2) (by omega) (by omega) (by omega) fa40; rw [t1.1, t2.1] at this; exact this)⟩⟩ | 2, _ => exact ⟨q14, rfl, ⟨bI_01, 10, _, _, _, _, _, _, _, _, _, _, lams10, lamok10, by decide, by decide +kernel, fa41, (by have := lamL10 C.2.1 (zg C) h38 10 _ (by decide) q2 e2.1 e2.2.1 e2.2.2.1 e2.2.2.2.1 t (hX38.el3 hk2) (by omega) (by omega) fa41; rw [t2.2.2.1] at this; exact this)⟩⟩ | 3, _ => exact ⟨q22, rfl, ⟨bI_01, 11, _, _, _, _, _, _, _, _, _, _, lams11, lamok11, by decide, by decide +kernel, fa42, lamL11 _ _ _ _ _ (by decide) sh (f) rc (Ls) S hX38.1 T hk fa42 hX38.stA⟩⟩ | 4, _ => exact ⟨q32, rfl, ⟨bI_01, 12, _, _, _, _, _, _, _, _, _, _, lams12, lamok12, by decide, by decide +kernel, fa43, lamL12 _ _ _ _ _ (by decide) sh (f) rc (Ls) S hX38.1 T hk v m hv hm fa43 hX38.stA⟩⟩ | j9 + 5, hj9 => exact absurd hj9 (by omega))) ?_
  dsimp only [zst]
  refine z_iret1 X dX2_whyNotMade_95 (Nat.le_of_ble_eq_true rfl) (Nat.le_of_ble_eq_true rfl) ?_
  refine ⟨?_, w38⟩
  rw [fst_5]
  show some (vI (if bI (S.1 (117 + 3 * v) = 0) = 0 then if bI (S.1 (117 + 3 * v) < t * mZ (m % 3)) = 0 then if bI (2000 < S.1 (126 + 3 * m + 1) + t) = 0 then if bI (S.2.2.1.length = 12) = 0 then if bI (ptsN S.1 v m < 30) = 0 then 0 else 5 else 4 else 3 else 2 else 1)) = _
  rw [bI_ite, bI_ite, bI_ite, bI_ite, bI_ite]
  rfl
end ZLAM8

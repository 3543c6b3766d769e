/-! THE STATE: deliver, make, sheetsFrom -/
section ZS13
theorem deliver_tie {f : Int → Int} {Ls : Nat → ELs} {S : St} {c s x z : Int} {q : Nat} {e : El} (T : tie f Ls S) (hc : 0 ≤ c ∧ c < 4) (hl : S.2.1.length < 24) (hq : (Ls 0)[c.toNat]? = some (q, e)) {q1 : Nat} (hr : mRags x z ≠ 0) :
    tie (iup f 201 (f 201 + mRags x z)) (lup (lup Ls 0 ((Ls 0).set c.toNat (q, (e.1 + tollS S c x, e.2.1, e.2.2.1, e.2.2.2.1, e.2.2.2.2)))) 1 (Ls 1 ++ [(q1, (s, mRags x z, z, 0, 0))])) (delS c s x z S) := by
  have e0 := T.C.2 _ _ _ hq
  rw [Int.toNat_of_nonneg hc.1] at e0
  have TC := T.C
  have TV := T.V
  have TM := T.M
  have Tl := T.lens.1
  obtain ⟨T0, -, ⟨Tb, Tb1, Tb2⟩, -, -, TP, TR, Ta, Tz⟩ := T
  have eD : delS c s x z S = (iup S.1 (13 + 2 * c) (S.1 (13 + 2 * c) + tollS S c x), S.2.1 ++ [(s, mRags x z, z, 0)], S.2.2) := by
    unfold delS
    rw [if_neg hr]
  rw [eD]
  refine ⟨fun j hj => ?_, TC.set hc.1 ?_ ?_ (fun j a b h => iup_n (by omega)), ⟨?_, ?_, fun p hp => ?_⟩, TV.keep (fun j a b => iup_n (by omega)), TM.keep (fun j a b => iup_n (by omega)), TP, TR, ?_, ?_⟩
  · rw [iup_n (by omega), T0 j hj]
    exact (iup_n (by omega)).symm
  · show e.1 + tollS S c x = _
    rw [e0.1]
    exact iup_s.symm
  · exact e0.2.trans (iup_n (by omega)).symm
  · show (Ls 1 ++ [(q1, (s, mRags x z, z, 0, 0))]).map _ = _
    rw [List.map_append, Tb]
    rfl
  · show (Ls 1 ++ [(q1, (s, mRags x z, z, 0, 0))]).length ≤ 24
    rw [List.length_append]
    show (Ls 1).length + 1 ≤ 24
    omega
  · rcases List.mem_append.mp (show p ∈ Ls 1 ++ [(q1, (s, mRags x z, z, 0, 0))] from hp) with h | h
    · exact Tb2 p h
    · rw [List.mem_singleton.mp h]
      exact ⟨Or.inl rfl, Int.le_refl _, by show (0 : Int) ≤ 5; decide⟩
  · rw [iup_s, iup_n (by decide), iup_n (by decide), iup_n (by decide)]
    unfold unitsS
    show _ = iup S.1 _ _ 7 + lsum (fun b : Bl => 40 * b.2.1) (S.2.1 ++ [(s, mRags x z, z, 0)]) + (iup S.1 _ _ 117 + iup S.1 _ _ 120 + iup S.1 _ _ 123) + lsum (fun p : Pl => p.2.2.2.1 * mZ p.2.1) S.2.2.1 + lsum unitsQ S.2.2.2
    rw [iup_n (by omega), iup_n (by omega), iup_n (by omega), iup_n (by omega), lsum_app, lsum_one]
    unfold unitsS at Ta
    dsimp only
    omega
  · rw [iup_n (by decide), iup_n (by decide)]
    exact Tz
theorem deliver0_tie {f : Int → Int} {Ls : Nat → ELs} {S : St} {c s x z : Int} {q : Nat} {e : El} (T : tie f Ls S) (hc : 0 ≤ c ∧ c < 4) (hq : (Ls 0)[c.toNat]? = some (q, e)) (hr : mRags x z = 0) :
    tie (iup f 201 (f 201 + mRags x z)) (lup Ls 0 ((Ls 0).set c.toNat (q, (e.1 + tollS S c x, e.2.1, e.2.2.1, e.2.2.2.1, e.2.2.2.2)))) (delS c s x z S) := by
  have e0 := T.C.2 _ _ _ hq
  rw [Int.toNat_of_nonneg hc.1] at e0
  have TC := T.C
  have TV := T.V
  have TM := T.M
  obtain ⟨T0, -, TB, -, -, TP, TR, Ta, Tz⟩ := T
  have eD : delS c s x z S = (iup S.1 (13 + 2 * c) (S.1 (13 + 2 * c) + tollS S c x), S.2.1, S.2.2) := by
    unfold delS
    rw [if_pos hr]
  rw [eD, hr, Int.add_zero, iup_self]
  refine ⟨fun j hj => by rw [T0 j hj]; exact (iup_n (by omega)).symm, TC.set hc.1 ?_ ?_ (fun j a b h => iup_n (by omega)), TB, TV.keep (fun j a b => iup_n (by omega)), TM.keep (fun j a b => iup_n (by omega)), TP, TR, ?_, Tz⟩
  · show e.1 + tollS S c x = _
    rw [e0.1]
    exact iup_s.symm
  · exact e0.2.trans (iup_n (by omega)).symm
  · rw [Ta]
    unfold unitsS
    show _ = iup S.1 _ _ 7 + _ + (iup S.1 _ _ 117 + iup S.1 _ _ 120 + iup S.1 _ _ 123) + _ + _
    rw [iup_n (by omega), iup_n (by omega), iup_n (by omega), iup_n (by omega)]
theorem Y_X2_deliver : zYV yX2_deliver cX2_deliver 7 (some .boolean) 4 := ⟨⟨q1227, q1228, q113, q1229⟩, by decide +kernel, by decide⟩
set_option maxRecDepth 100000 in
theorem c_X2_deliver (l : Launch) (g : zG) (h : GH) (sh : Sh) (f : Int → Int) (rc : Nat) (Ls : Nat → ELs) (S : St) (w : rW g.2.2 h sh (f, rc, Ls)) (T : tie f Ls S) (hk : okY S) (c s x z : Int) (hc : 0 ≤ c ∧ c < 4) (hs : 0 ≤ s ∧ s < 4) (hx : 10 ≤ x ∧ x ≤ 300) (hz : 0 ≤ z ∧ z ≤ 99) : zMet l yX2_deliver cX2_deliver 7 (some .boolean) 81 6 80 [vR sh.1, vI c, vI s, vI x, vI z] g h (fun r h' => r = some (vI (bI (whyInS S c x z = 0))) ∧ ∃ sh' f' Ls', rX g.2.2 h (fpS sh (f, rc, Ls)) sh' (f', rc, Ls') h' ∧ tie f' Ls' (if whyInS S c x z = 0 then delS c s x z S else S)) := by
  refine zMet.mk (L0 := [some (vR sh.1), some (vI c), some (vI s), some (vI x), some (vI z), none, none]) (by decide) rfl (Nat.le_of_ble_eq_true rfl) rfl (fun C hg hl hnm X => ?_)
  subst hg hl
  have hX := w.start
  obtain ⟨T0, ⟨Tc, Tc2⟩, ⟨Tb, Tb1, Tb2⟩, ⟨Tv, Tv2⟩, ⟨Tm, Tm2⟩, ⟨Tp, Tp1, Tp2⟩, ⟨Tr, Tr1⟩, Ta, Tz⟩ := id T
  obtain ⟨⟨⟨kc1a, kc1b, kc1c, kc1d, kc1e⟩, kc2, kc3, kc4, kc5⟩, kb, kp, kq⟩ := id hk
  obtain ⟨Tl1, Tl4, Tl5⟩ := T.lens
  have z0 := T0 0 (by omega)
  have z1 := T0 1 (by omega)
  have z2 := T0 2 (by omega)
  have z3 := T0 3 (by omega)
  have htl : 0 ≤ tollS S c x ∧ tollS S c x ≤ 1000 := by unfold tollS; split <;> omega
  have hmr : 0 ≤ mRags x z ∧ mRags x z ≤ 300 := by
    have := mulb (a := x) (b := 100 - z) (A := 300) (B := 100) (by omega) (by omega)
    unfold mRags
    omega
  have hml := mulb (a := x) (b := 100 - z) (A := 300) (B := 100) (by omega) (by omega)
  have hwy : 0 ≤ whyInS S c x z ∧ whyInS S c x z ≤ 3 := by unfold whyInS; (repeat' split) <;> omega
  have hlt0 : whyInS S c x z = 0 → S.2.1.length < 24 := fun hh => by
    unfold whyInS at hh
    split at hh
    · omega
    · have := T.lens.1
      omega
  refine z_aload_n (pc' := 1) X dX2_deliver_0 rfl rfl ?_
  refine z_iload_n (pc' := 2) X dX2_deliver_1 rfl rfl ?_
  refine z_iload_n (pc' := 3) X dX2_deliver_2 rfl rfl ?_
  refine z_iload (pc' := 5) X dX2_deliver_3 rfl rfl ?_
  refine z_callV1 (pc' := 8) X Y_X2_whyNotIn q1230 dX2_deliver_5 rfl (Nat.le_of_ble_eq_true rfl) (by omega) (by omega) rfl rfl (Nat.le_of_ble_eq_true rfl) rfl ⟨_, hX.stA⟩ (c_X2_whyNotIn _ _ _ sh (f) rc (Ls) S hX.1 T hk (c) (x) (z) (by first | assumption | omega | (unfold rng; omega)) (by first | assumption | omega | (unfold rng; omega)) (by first | assumption | omega | (unfold rng; omega))) (fun v1 h1 p1 => ?_)
  obtain ⟨ev1, p1⟩ := p1
  subst ev1
  dsimp only [zst]
  have hX1 : rX (zg C).2.2 h (fpS sh (f, rc, Ls)) sh (f, rc, Ls) h1 := hX.le p1
  refine z_if_ne (tgt := 15) (pc' := 11) X (by first | assumption | omega | (unfold rng; omega)) dX2_deliver_8 rfl (by decide) (fun c8 => ?_) (fun c8 => ?_)
  · refine z_iconst (pc' := 16) X dX2_deliver_15 rfl ?_
    refine z_istore (pc' := 18) X dX2_deliver_16 rfl (by decide) rfl ?_
    dsimp only [List.set]
    refine z_iload (pc' := 20) X dX2_deliver_18 rfl rfl ?_
    refine z_if_eq (tgt := 100) (pc' := 23) X (by first | assumption | omega | (unfold rng; omega)) dX2_deliver_20 rfl (by decide) (fun c20 => ?_) (fun c20 => ?_)
    · refine z_iload (pc' := 102) X dX2_deliver_100 rfl rfl ?_
      refine z_zret1 X dX2_deliver_102 (by first | exact nar_0 | exact nar_1 | exact nar_bI _ | exact nar_b (by omega)) (by omega) (by omega) ?_
      exact ⟨by rw [bI_f c8], sh, _, _, hX1, by rw [if_neg c8]; exact T⟩
    · exact absurd rfl c20
  · have hlt := hlt0 (by omega)
    refine z_iconst (pc' := 12) X dX2_deliver_11 rfl ?_
    refine z_goto (tgt := 16) X dX2_deliver_12 (by decide) ?_
    refine z_istore (pc' := 18) X dX2_deliver_16 rfl (by decide) rfl ?_
    dsimp only [List.set]
    refine z_iload (pc' := 20) X dX2_deliver_18 rfl rfl ?_
    refine z_if_eq (tgt := 100) (pc' := 23) X (by first | assumption | omega | (unfold rng; omega)) dX2_deliver_20 rfl (by decide) (fun c20 => ?_) (fun c20 => ?_)
    · exact absurd c20 (by decide)
    · refine z_iload_n (pc' := 24) X dX2_deliver_23 rfl rfl ?_
      refine z_bipush (pc' := 26) X dX2_deliver_24 rfl (by decide) ?_
      refine z_iload (pc' := 28) X dX2_deliver_26 rfl rfl ?_
      refine z_isub (pc' := 29) X dX2_deliver_28 rfl ?_
      refine z_imul (pc' := 30) X dX2_deliver_29 rfl ?_
      refine z_bipush (pc' := 32) X dX2_deliver_30 rfl (by decide) ?_
      refine z_idivp (pc' := 33) X (by omega) (by decide) dX2_deliver_32 rfl ?_
      rw [show x * (100 - z) / 100 = mRags x z from rfl]
      refine z_istore (pc' := 35) X dX2_deliver_33 rfl (by decide) rfl ?_
      dsimp only [List.set]
      refine z_aload_n (pc' := 36) X dX2_deliver_35 rfl rfl ?_
      refine z_get1 (pc' := 39) (kf := 11) X in_X2 rfl (by decide) q234 (Or.inl rfl) hX1.stA rfl dX2_deliver_36 rfl ?_
      refine z_iload_n (pc' := 40) X dX2_deliver_39 rfl rfl ?_
      obtain ⟨q2, e2, hk2⟩ := ELs.at (ps := Ls 0) (k := c) (by first | assumption | omega | (unfold rng; omega))
      have t2 := Tc2 _ _ _ hk2
      rw [Int.toNat_of_nonneg (by omega)] at t2
      have b2 := kc3 (c) (by omega) (by omega)
      refine z_rget (pc' := 45) X q549 hX1 (i := 0) (by decide) (j := c) hk2 (by first | assumption | omega | (unfold rng; omega)) dX2_deliver_40 rfl (by decide) (Nat.le_of_ble_eq_true rfl) (by omega) (by omega) (by show (Ls 0).length ≤ 1000; omega) ?_
      refine z_castS1 (pc' := 48) X (ci := 3) q281 rfl ⟨_, (hX1.el0 hk2)⟩ dX2_deliver_45 rfl ?_
      refine z_dup (pc' := 49) X rfl dX2_deliver_48 rfl ?_
      refine z_get1 (pc' := 52) (kf := 0) X in_X4 rfl (by decide) q288 (Or.inl rfl) (hX1.el0 hk2) rfl dX2_deliver_49 rfl ?_
      refine z_aload_n (pc' := 53) X dX2_deliver_52 rfl rfl ?_
      refine z_iload_n (pc' := 54) X dX2_deliver_53 rfl rfl ?_
      refine z_iload_n (pc' := 55) X dX2_deliver_54 rfl rfl ?_
      refine z_callV0 (pc' := 58) X Y_X2_toll q1245 dX2_deliver_55 rfl (Nat.le_of_ble_eq_true rfl) (by omega) (by omega) rfl rfl (Nat.le_of_ble_eq_true rfl) rfl ⟨_, hX1.stA⟩ (c_X2_toll _ _ _ sh (f) rc (Ls) S hX1.1 T hk (c) (x) (by first | assumption | omega | (unfold rng; omega)) (by first | assumption | omega | (unfold rng; omega))) ?_
      dsimp only [zst]
      refine z_iadd (pc' := 59) X dX2_deliver_58 rfl ?_
      refine z_put1 (pc' := 62) (kf := 0) X in_X4 tyX4 tyX4_ok nmX4 rfl (by decide) q288 (Or.inl rfl) rfl rfl rfl (Nat.le_of_ble_eq_true rfl) (hX1.el0 hk2) dX2_deliver_59 rfl (fun h4 e4 => ?_)
      have hX4 : rX (zg C).2.2 h (fpS sh (f, rc, Ls)) sh (f, rc, (lup Ls 0 ((Ls 0).set (c).toNat (q2, ((e2.1 + (tollS S (c) (x))), e2.2.1, e2.2.2.1, e2.2.2.2.1, e2.2.2.2.2))))) h4 := by rw [e4]; have t := hX1.elem (i := 0) (e' := ((e2.1 + (tollS S (c) (x))), e2.2.1, e2.2.2.1, e2.2.2.2.1, e2.2.2.2.2)) (by decide) hk2 rfl; exact t
      have hk4 : ((Ls 0).set (c).toNat (q2, ((e2.1 + (tollS S (c) (x))), e2.2.1, e2.2.2.1, e2.2.2.2.1, e2.2.2.2.2)))[(c).toNat]? = some (q2, ((e2.1 + (tollS S (c) (x))), e2.2.1, e2.2.2.1, e2.2.2.2.1, e2.2.2.2.2)) := set_at hk2
      refine z_aload_n (pc' := 63) X dX2_deliver_62 rfl rfl ?_
      refine z_dup (pc' := 64) X rfl dX2_deliver_63 rfl ?_
      refine z_get1 (pc' := 67) (kf := 5) X in_X2 rfl (by decide) q223 (Or.inl rfl) hX4.stA rfl dX2_deliver_64 rfl ?_
      refine z_iload (pc' := 69) X dX2_deliver_67 rfl rfl ?_
      refine z_iadd (pc' := 70) X dX2_deliver_69 rfl ?_
      refine z_put1 (pc' := 73) (kf := 5) X in_X2 tyX2 tyX2_ok nmX2 rfl (by decide) q223 (Or.inl rfl) rfl rfl rfl (Nat.le_of_ble_eq_true rfl) hX4.stA dX2_deliver_70 rfl (fun h5 e5 => ?_)
      have hX5 : rX (zg C).2.2 h (fpS sh (f, rc, Ls)) sh ((iup f 201 ((f 201 + (mRags x z)))), rc, (lup Ls 0 ((Ls 0).set (c).toNat (q2, ((e2.1 + (tollS S (c) (x))), e2.2.1, e2.2.2.1, e2.2.2.2.1, e2.2.2.2.2))))) h5 := by rw [e5]; exact hX4.num5
      refine z_iload (pc' := 75) X dX2_deliver_73 rfl rfl ?_
      refine z_if_le (tgt := 100) (pc' := 78) X (by first | assumption | omega | (unfold rng; omega)) dX2_deliver_75 rfl (by decide) (fun c75 => ?_) (fun c75 => ?_)
      · refine z_iload (pc' := 102) X dX2_deliver_100 rfl rfl ?_
        refine z_zret1 X dX2_deliver_102 (by first | exact nar_0 | exact nar_1 | exact nar_bI _ | exact nar_b (by omega)) (by omega) (by omega) ?_
        exact ⟨by rw [bI_t (by omega)], sh, _, _, hX5, by rw [if_pos (by omega)]; exact deliver0_tie T hc hk2 (by omega)⟩
      · refine z_aload_n (pc' := 79) X dX2_deliver_78 rfl rfl ?_
        refine z_get1 (pc' := 82) (kf := 12) X in_X2 rfl (by decide) q236 (Or.inl rfl) hX5.stA rfl dX2_deliver_79 rfl ?_
        refine z_new1 (pc' := 85) X (ci := 7) (fs := [vI 0, vI 0, vI 0, vI 0, vI 0]) in_X9 tyX9 tyX9_ok q567 q630 q142 rfl df_X9 dX2_deliver_82 rfl (by omega) (by omega) (fun q6 h6 n6 e6 => ?_)
        have g6 := (congrFun e6 q6).trans hset_s
        have hX6 : rX (zg C).2.2 h (fpS sh (f, rc, Ls)) sh ((iup f 201 ((f 201 + (mRags x z)))), rc, (lup Ls 0 ((Ls 0).set (c).toNat (q2, ((e2.1 + (tollS S (c) (x))), e2.2.1, e2.2.2.1, e2.2.2.2.1, e2.2.2.2.2))))) h6 := by rw [e6]; exact hX5.new n6
        refine z_dup (pc' := 86) X rfl dX2_deliver_85 rfl ?_
        refine z_iload_n (pc' := 87) X dX2_deliver_86 rfl rfl ?_
        refine z_iload (pc' := 89) X dX2_deliver_87 rfl rfl ?_
        refine z_iload (pc' := 91) X dX2_deliver_89 rfl rfl ?_
        refine z_callI1 (pc' := 94) X Y_X9_init q1264 dX2_deliver_91 rfl (Nat.le_of_ble_eq_true rfl) (by omega) (by omega) rfl rfl (Nat.le_of_ble_eq_true rfl) (c_X9_init _ _ _ (q6) (s) ((mRags x z)) (z) g6) (fun v7 h7 p7 => ?_)
        obtain ⟨ev7, p7⟩ := p7
        subst ev7
        dsimp only [zst]
        have e7 := p7.trans (by rw [e6, hset_hset])
        have g7 := (congrFun e7 q6).trans hset_s
        have hX7 : rX (zg C).2.2 h (fpS sh (f, rc, Ls)) sh ((iup f 201 ((f 201 + (mRags x z)))), rc, (lup Ls 0 ((Ls 0).set (c).toNat (q2, ((e2.1 + (tollS S (c) (x))), e2.2.1, e2.2.2.1, e2.2.2.2.1, e2.2.2.2.2))))) h7 := by rw [e7]; exact hX5.new n6
        refine z_radd (pc' := 99) X q299 hX7 (i := 1) (by decide) (q := q6) (e := (s, mRags x z, z, 0, 0)) g7 (fun _ => hX5.fresh n6 (by decide)) (fun _ => Or.inr (hX5.2.1.1 _ n6)) (by show (Ls 1).length ≤ 40; omega) dX2_deliver_94 rfl (by decide) (Nat.le_of_ble_eq_true rfl) (by omega) (by omega) (fun h8 ar8 hX8 hf8 => ?_)
        obtain ⟨arf8, harf8⟩ : ∃ x : Nat → Option Nat, x = aup sh.2.2 1 ar8 := ⟨_, rfl⟩
        have hZ8 : rX (zg C).2.2 h (fpS sh (f, rc, Ls)) (sh.1, sh.2.1, arf8) ((iup f 201 ((f 201 + (mRags x z)))), rc, (lup (lup Ls 0 ((Ls 0).set (c).toNat (q2, ((e2.1 + (tollS S (c) (x))), e2.2.1, e2.2.2.1, e2.2.2.2.1, e2.2.2.2.2)))) 1 (Ls 1 ++ [(q6, (s, mRags x z, z, 0, 0))]))) h8 := by rw [harf8]; exact hX8
        have fa9 := hX7.lsk (i := 1) (by decide) hf8 g7 (by decide)
        refine z_pop (pc' := 100) X rfl dX2_deliver_99 rfl ?_
        refine z_iload (pc' := 102) X dX2_deliver_100 rfl rfl ?_
        refine z_zret1 X dX2_deliver_102 (by first | exact nar_0 | exact nar_1 | exact nar_bI _ | exact nar_b (by omega)) (by omega) (by omega) ?_
        exact ⟨by rw [bI_t (by omega)], (sh.1, sh.2.1, arf8), _, _, hZ8, by rw [if_pos (by omega)]; exact deliver_tie T hc hlt hk2 (by omega)⟩
end ZS13

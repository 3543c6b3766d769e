/-! THE STATE: what looks through its lists -/
section ZS2
theorem tk_map {α : Type} {ps : ELs} {g : Nat × El → α} {k : Int} {p : Nat × El} (h0 : 0 ≤ k) (hk : ps[k.toNat]? = some p) : (ps.take (k + 1).toNat).map g = (ps.take k.toNat).map g ++ [g p] := by
  rw [show (k + 1).toNat = k.toNat + 1 by omega, List.take_succ, hk, List.map_append]
  rfl
theorem tk_end {α : Type} {ps : ELs} {g : Nat × El → α} {k : Int} (h : (ps.length : Int) ≤ k) : (ps.take k.toNat).map g = ps.map g := by
  rw [List.take_of_length_le (by omega)]
theorem abB_m {e : El} (h : (0 ≤ e.2.2.2.1 ∧ e.2.2.2.1 ≤ 5) ∧ (e.2.2.2.2 = 0 ∨ e.2.2.2.2 = 1)) : (abB e).2.2.2 ≠ -1 ↔ e.2.2.2.2 = 0 := by
  show (if e.2.2.2.2 = 1 then -1 else e.2.2.2.1) ≠ -1 ↔ _
  split <;> omega
theorem goodL_one {s : Int} {e : El} (h : (0 ≤ e.2.2.2.1 ∧ e.2.2.2.1 ≤ 5) ∧ (e.2.2.2.2 = 0 ∨ e.2.2.2.2 = 1)) : goodL s [abB e] = if e.1 = s ∧ e.2.2.2.2 = 0 then e.2.1 else 0 := by
  show (if (abB e).1 = s ∧ (abB e).2.2.2 ≠ -1 then (abB e).2.1 else 0) + 0 = _
  rw [Int.add_zero]
  by_cases hc : e.1 = s ∧ e.2.2.2.2 = 0
  · rw [if_pos hc, if_pos ⟨hc.1, (abB_m h).mpr hc.2⟩]
    rfl
  · rw [if_neg hc, if_neg fun hh => hc ⟨hh.1, (abB_m h).mp hh.2⟩]
theorem dryL_one {a b c : Int} {e : El} : dryL a b c [e] = if 3 ≤ e.2.2.2.2 ∧ e.1 = a ∧ e.2.1 = b ∧ e.2.2.1 = c then e.2.2.2.1 else 0 := by
  show dryX a b c e + 0 = _
  rw [Int.add_zero]
  unfold dryX
  by_cases hc : 3 ≤ e.2.2.2.2 ∧ e.1 = a ∧ e.2.1 = b ∧ e.2.2.1 = c
  · rw [if_pos hc, if_pos ⟨hc.2.1, hc.2.2.1, hc.2.2.2, hc.1⟩]
  · rw [if_neg hc, if_neg fun hh => hc ⟨hh.2.2.2, hh.1, hh.2.1, hh.2.2.1⟩]
theorem szU_mZ : szU = mZ := rfl
theorem lsum_one {α : Type} {g : α → Int} {x : α} : lsum g [x] = g x := Int.add_zero _
theorem lsum_map {α β : Type} {g : β → Int} {m : α → β} : ∀ {l : List α}, lsum g (l.map m) = lsum (fun x => g (m x)) l
  | [] => rfl
  | x :: t => by
    show g (m x) + lsum g (t.map m) = g (m x) + lsum (fun x => g (m x)) t
    rw [lsum_map]
theorem runB_c {b : Bl} {t : List Bl} : runB (b :: t) = if b.2.2.2 ≠ -1 ∧ 20 ≤ b.2.2.1 then 1 + runB t else 0 := rfl
theorem Y_X2_goodRags : zYV yX2_goodRags cX2_goodRags 5 (some .int) 1 := ⟨⟨q1290, q1291, q113, q1292⟩, by decide +kernel, by decide⟩
set_option maxRecDepth 100000 in
theorem c_X2_goodRags (l : Launch) (g : zG) (h : GH) (sh : Sh) (f : Int → Int) (rc : Nat) (Ls : Nat → ELs) (S : St) (w : rW g.2.2 h sh (f, rc, Ls)) (T : tie f Ls S) (hk : okY S) (s : Int) (hs0 : rng s) : zPur l yX2_goodRags cX2_goodRags 5 (some .int) 6 [vR sh.1, vI s] g h (some (vI (goodL s S.2.1))) := by
  refine zMet.mk (L0 := [some (vR sh.1), some (vI s), none, none, none]) (by decide) rfl (Nat.le_of_ble_eq_true rfl) rfl (fun C hg hl hnm X => ?_)
  subst hg hl
  have hX := w.start
  obtain ⟨T0, ⟨Tc, Tc2⟩, ⟨Tb, Tb1, Tb2⟩, ⟨Tv, Tv2⟩, ⟨Tm, Tm2⟩, ⟨Tp, Tp1, Tp2⟩, ⟨Tr, Tr1⟩, Ta, Tz⟩ := id T
  obtain ⟨⟨⟨kc1a, kc1b, kc1c, kc1d, kc1e⟩, kc2, kc3, kc4, kc5⟩, kb, kp, kq⟩ := id hk
  obtain ⟨Tl1, Tl4, Tl5⟩ := T.lens
  have z0 := T0 0 (by omega)
  have z1 := T0 1 (by omega)
  have z2 := T0 2 (by omega)
  have z3 := T0 3 (by omega)
  refine z_iconst (pc' := 1) X dX2_goodRags_0 rfl ?_
  refine z_istore_n (pc' := 2) X dX2_goodRags_1 rfl (by decide) rfl ?_
  dsimp only [List.set]
  refine z_iconst (pc' := 3) X dX2_goodRags_2 rfl ?_
  refine z_istore_n (pc' := 4) X dX2_goodRags_3 rfl (by decide) rfl ?_
  dsimp only [List.set]
  have loop4 : ∀ (N : Nat) (k sm : Int) , (0 ≤ k ∧ k ≤ ((Ls 1).length : Int)) → (sm = goodL s (((Ls 1).take k.toNat).map (fun p : Nat × El => abB p.2))) → (((Ls 1).length : Int) - k).toNat < N → ZP C 5 (zAt h) (0) (0) [some (vR sh.1), some (vI s), some (vI sm), some (vI k), none] 4 [] := by
    intro N
    induction N with
    | zero => intro k sm  hb hs hN; exact absurd hN (Nat.not_lt_zero _)
    | succ N ih4 =>
      intro k sm  hb hs hN
      refine z_iload_n (pc' := 5) X dX2_goodRags_4 rfl rfl ?_
      refine z_aload_n (pc' := 6) X dX2_goodRags_5 rfl rfl ?_
      refine z_get1 (pc' := 9) (kf := 12) X in_X2 rfl (by decide) q236 (Or.inl rfl) hX.stA rfl dX2_goodRags_6 rfl ?_
      refine z_rsize (pc' := 14) X q547 hX (i := 1) (by decide) dX2_goodRags_9 rfl (by decide) (Nat.le_of_ble_eq_true rfl) (Nat.le_of_ble_eq_true rfl) (Nat.le_of_ble_eq_true rfl) ?_
      refine z_icmp_ge (tgt := 67) (pc' := 17) X (by first | assumption | omega) (by first | assumption | omega) dX2_goodRags_14 rfl (by decide) (fun c14 => ?_) (fun c14 => ?_)
      · refine z_iload_n (pc' := 68) X dX2_goodRags_67 rfl rfl ?_
        refine z_iret1 X dX2_goodRags_68 (Nat.le_of_ble_eq_true rfl) (Nat.le_of_ble_eq_true rfl) ?_
        exact ⟨by rw [hs, tk_end (by omega), Tb], rfl⟩
      · refine z_aload_n (pc' := 18) X dX2_goodRags_17 rfl rfl ?_
        refine z_get1 (pc' := 21) (kf := 12) X in_X2 rfl (by decide) q236 (Or.inl rfl) hX.stA rfl dX2_goodRags_18 rfl ?_
        refine z_iload_n (pc' := 22) X dX2_goodRags_21 rfl rfl ?_
        obtain ⟨q1, e1, hk1⟩ := ELs.at (ps := Ls 1) (k := k) (by first | assumption | omega)
        have b1 := T.bale hk hk1
        refine z_rget (pc' := 27) X q549 hX (i := 1) (by decide) (j := k) hk1 (by first | assumption | omega) dX2_goodRags_22 rfl (by decide) (Nat.le_of_ble_eq_true rfl) (Nat.le_of_ble_eq_true rfl) (Nat.le_of_ble_eq_true rfl) (by show (Ls 1).length ≤ 1000; omega) ?_
        refine z_castS1 (pc' := 30) X (ci := 7) q567 rfl ⟨_, (hX.el1 hk1)⟩ dX2_goodRags_27 rfl ?_
        refine z_astore (pc' := 32) X dX2_goodRags_30 rfl (by decide) rfl ?_
        dsimp only [List.set]
        refine z_iload_n (pc' := 33) X dX2_goodRags_32 rfl rfl ?_
        refine z_aload (pc' := 35) X dX2_goodRags_33 rfl rfl ?_
        refine z_get1 (pc' := 38) (kf := 0) X in_X9 rfl (by decide) q636 (Or.inl rfl) (hX.el1 hk1) rfl dX2_goodRags_35 rfl ?_
        refine z_iload_n (pc' := 39) X dX2_goodRags_38 rfl rfl ?_
        refine z_icmp_ne (tgt := 58) (pc' := 42) X (by first | assumption | omega) (by first | assumption | omega) dX2_goodRags_39 rfl (by decide) (fun c39 => ?_) (fun c39 => ?_)
        · refine z_iconst (pc' := 59) X dX2_goodRags_58 rfl ?_
          refine z_iadd (pc' := 60) X dX2_goodRags_59 rfl ?_
          refine z_istore_n (pc' := 61) X dX2_goodRags_60 rfl (by decide) rfl ?_
          dsimp only [List.set]
          refine z_iinc (pc' := 64) X dX2_goodRags_61 rfl (by decide) rfl rfl ?_
          dsimp only [List.set]
          refine z_goto (tgt := 4) X dX2_goodRags_64 (by decide) ?_
          refine ZP.wk (L' := [some (vR sh.1), some (vI s), some (vI _), some (vI _), none]) (And.intro rfl (And.intro rfl (And.intro rfl (And.intro rfl (trivial))))) ?_
          exact ZP.mono (Nat.le_of_ble_eq_true rfl) (Nat.le_of_ble_eq_true rfl) (ih4 _ _   (by omega) (by rw [tk_map hb.1 hk1, goodL_app, ← hs, goodL_one ⟨b1.2.2.2.1, b1.2.2.2.2⟩, if_neg (fun hh => c39 hh.1)]) (by omega))
        · refine z_aload (pc' := 44) X dX2_goodRags_42 rfl rfl ?_
          refine z_get1 (pc' := 47) (kf := 4) X in_X9 rfl (by decide) q648 (Or.inl rfl) (hX.el1 hk1) rfl dX2_goodRags_44 rfl ?_
          refine z_if_ne (tgt := 58) (pc' := 50) X (by first | assumption | omega) dX2_goodRags_47 rfl (by decide) (fun c47 => ?_) (fun c47 => ?_)
          · refine z_iconst (pc' := 59) X dX2_goodRags_58 rfl ?_
            refine z_iadd (pc' := 60) X dX2_goodRags_59 rfl ?_
            refine z_istore_n (pc' := 61) X dX2_goodRags_60 rfl (by decide) rfl ?_
            dsimp only [List.set]
            refine z_iinc (pc' := 64) X dX2_goodRags_61 rfl (by decide) rfl rfl ?_
            dsimp only [List.set]
            refine z_goto (tgt := 4) X dX2_goodRags_64 (by decide) ?_
            refine ZP.wk (L' := [some (vR sh.1), some (vI s), some (vI _), some (vI _), none]) (And.intro rfl (And.intro rfl (And.intro rfl (And.intro rfl (trivial))))) ?_
            exact ZP.mono (Nat.le_of_ble_eq_true rfl) (Nat.le_of_ble_eq_true rfl) (ih4 _ _   (by omega) (by rw [tk_map hb.1 hk1, goodL_app, ← hs, goodL_one ⟨b1.2.2.2.1, b1.2.2.2.2⟩, if_neg (fun hh => c47 hh.2)]) (by omega))
          · refine z_aload (pc' := 52) X dX2_goodRags_50 rfl rfl ?_
            refine z_get1 (pc' := 55) (kf := 1) X in_X9 rfl (by decide) q639 (Or.inl rfl) (hX.el1 hk1) rfl dX2_goodRags_52 rfl ?_
            refine z_goto (tgt := 59) X dX2_goodRags_55 (by decide) ?_
            refine z_iadd (pc' := 60) X dX2_goodRags_59 rfl ?_
            refine z_istore_n (pc' := 61) X dX2_goodRags_60 rfl (by decide) rfl ?_
            dsimp only [List.set]
            refine z_iinc (pc' := 64) X dX2_goodRags_61 rfl (by decide) rfl rfl ?_
            dsimp only [List.set]
            refine z_goto (tgt := 4) X dX2_goodRags_64 (by decide) ?_
            refine ZP.wk (L' := [some (vR sh.1), some (vI s), some (vI _), some (vI _), none]) (And.intro rfl (And.intro rfl (And.intro rfl (And.intro rfl (trivial))))) ?_
            exact ZP.mono (Nat.le_of_ble_eq_true rfl) (Nat.le_of_ble_eq_true rfl) (ih4 _ _   (by omega) (by rw [tk_map hb.1 hk1, goodL_app, ← hs, goodL_one ⟨b1.2.2.2.1, b1.2.2.2.2⟩, if_pos ⟨c39, c47⟩]) (by omega))
  refine ZP.wk (L' := [some (vR sh.1), some (vI s), some (vI _), some (vI _), none]) (And.intro rfl (And.intro rfl (And.intro rfl (And.intro rfl (trivial))))) ?_
  exact ZP.mono (Nat.le_of_ble_eq_true rfl) (Nat.le_of_ble_eq_true rfl) (loop4 _ _ _   (by omega) rfl (Nat.lt_succ_self _))
theorem Y_X2_drySheets : zYV yX2_drySheets cX2_drySheets 6 (some .int) 3 := ⟨⟨q1665, q1666, q113, q1667⟩, by decide +kernel, by decide⟩
set_option maxRecDepth 100000 in
theorem c_X2_drySheets (l : Launch) (g : zG) (h : GH) (sh : Sh) (f : Int → Int) (rc : Nat) (Ls : Nat → ELs) (S : St) (w : rW g.2.2 h sh (f, rc, Ls)) (T : tie f Ls S) (hk : okY S) (a b c : Int) (ha : 0 ≤ a ∧ a ≤ 9) (hbb : 0 ≤ b ∧ b ≤ 2) (hcc : 0 ≤ c ∧ c ≤ 2) : zPur l yX2_drySheets cX2_drySheets 6 (some .int) 6 [vR sh.1, vI a, vR (g.2.2 b.toNat), vR (g.2.2 (3 + c.toNat))] g h (some (vI (dryL a b c S.2.2.1))) := by
  refine zMet.mk (L0 := [some (vR sh.1), some (vI a), some (vR (g.2.2 b.toNat)), some (vR (g.2.2 (3 + c.toNat))), none, none]) (by decide) rfl (Nat.le_of_ble_eq_true rfl) rfl (fun C hg hl hnm X => ?_)
  subst hg hl
  have hX := w.start
  obtain ⟨T0, ⟨Tc, Tc2⟩, ⟨Tb, Tb1, Tb2⟩, ⟨Tv, Tv2⟩, ⟨Tm, Tm2⟩, ⟨Tp, Tp1, Tp2⟩, ⟨Tr, Tr1⟩, Ta, Tz⟩ := id T
  obtain ⟨⟨⟨kc1a, kc1b, kc1c, kc1d, kc1e⟩, kc2, kc3, kc4, kc5⟩, kb, kp, kq⟩ := id hk
  obtain ⟨Tl1, Tl4, Tl5⟩ := T.lens
  have z0 := T0 0 (by omega)
  have z1 := T0 1 (by omega)
  have z2 := T0 2 (by omega)
  have z3 := T0 3 (by omega)
  refine z_iconst (pc' := 1) X dX2_drySheets_0 rfl ?_
  refine z_istore (pc' := 3) X dX2_drySheets_1 rfl (by decide) rfl ?_
  dsimp only [List.set]
  refine z_iconst (pc' := 4) X dX2_drySheets_3 rfl ?_
  refine z_istore (pc' := 6) X dX2_drySheets_4 rfl (by decide) rfl ?_
  dsimp only [List.set]
  have loop6 : ∀ (N : Nat) (sm k : Int) , (0 ≤ k ∧ k ≤ ((Ls 4).length : Int)) → (sm = dryL a b c (((Ls 4).take k.toNat).map Prod.snd)) → (((Ls 4).length : Int) - k).toNat < N → ZP C 6 (zAt h) (0) (0) [some (vR sh.1), some (vI a), some (vR ((zg C).2.2 b.toNat)), some (vR ((zg C).2.2 (3 + c.toNat))), some (vI sm), some (vI k)] 6 [] := by
    intro N
    induction N with
    | zero => intro sm k  hb hs hN; exact absurd hN (Nat.not_lt_zero _)
    | succ N ih6 =>
      intro sm k  hb hs hN
      refine z_iload (pc' := 8) X dX2_drySheets_6 rfl rfl ?_
      refine z_aload_n (pc' := 9) X dX2_drySheets_8 rfl rfl ?_
      refine z_get1 (pc' := 12) (kf := 15) X in_X2 rfl (by decide) q242 (Or.inl rfl) hX.stA rfl dX2_drySheets_9 rfl ?_
      refine z_rsize (pc' := 17) X q547 hX (i := 4) (by decide) dX2_drySheets_12 rfl (by decide) (Nat.le_of_ble_eq_true rfl) (Nat.le_of_ble_eq_true rfl) (Nat.le_of_ble_eq_true rfl) ?_
      refine z_icmp_ge (tgt := 75) (pc' := 20) X (by first | assumption | omega | exact bI_rng2) (by first | assumption | omega | exact bI_rng2) dX2_drySheets_17 rfl (by decide) (fun c17 => ?_) (fun c17 => ?_)
      · refine z_iload (pc' := 77) X dX2_drySheets_75 rfl rfl ?_
        refine z_iret1 X dX2_drySheets_77 (Nat.le_of_ble_eq_true rfl) (Nat.le_of_ble_eq_true rfl) ?_
        exact ⟨by rw [hs, tk_end (by omega), Tp], rfl⟩
      · refine z_iload (pc' := 22) X dX2_drySheets_20 rfl rfl ?_
        refine z_aload_n (pc' := 23) X dX2_drySheets_22 rfl rfl ?_
        refine z_get1 (pc' := 26) (kf := 15) X in_X2 rfl (by decide) q242 (Or.inl rfl) hX.stA rfl dX2_drySheets_23 rfl ?_
        refine z_iload (pc' := 28) X dX2_drySheets_26 rfl rfl ?_
        obtain ⟨q1, e1, hk1⟩ := ELs.at (ps := Ls 4) (k := k) (by first | assumption | omega | exact bI_rng2)
        have b1 := T.pile hk hk1
        refine z_rget (pc' := 33) X q549 hX (i := 4) (by decide) (j := k) hk1 (by first | assumption | omega | exact bI_rng2) dX2_drySheets_28 rfl (by decide) (Nat.le_of_ble_eq_true rfl) (Nat.le_of_ble_eq_true rfl) (Nat.le_of_ble_eq_true rfl) (by show (Ls 4).length ≤ 1000; omega) ?_
        refine z_castS1 (pc' := 36) X (ci := 8) q568 rfl ⟨_, (hX.el4 hk1)⟩ dX2_drySheets_33 rfl ?_
        refine z_iload_n (pc' := 37) X dX2_drySheets_36 rfl rfl ?_
        refine z_aload_n (pc' := 38) X dX2_drySheets_37 rfl rfl ?_
        refine z_aload_n (pc' := 39) X dX2_drySheets_38 rfl rfl ?_
        refine z_callV0 (pc' := 42) X Y_X10_isDryOf q1668 dX2_drySheets_39 rfl (Nat.le_of_ble_eq_true rfl) (Nat.le_of_ble_eq_true rfl) (Nat.le_of_ble_eq_true rfl) rfl rfl (Nat.le_of_ble_eq_true rfl) rfl ⟨_, (hX.el4 hk1)⟩ (c_X10_isDryOf _ _ _ (q1) (e1.1) (e1.2.1) (e1.2.2.1) (e1.2.2.2.1) (e1.2.2.2.2) (a) (b) (c) (hX.el4 hk1) ⟨by omega, by omega, by omega⟩ ⟨by omega, by omega, by omega, by omega⟩) ?_
        dsimp only [zst]
        refine z_if_eq (tgt := 65) (pc' := 45) X (by first | assumption | omega | exact bI_rng2) dX2_drySheets_42 rfl (by decide) (fun c42 => ?_) (fun c42 => ?_)
        · refine z_iconst (pc' := 66) X dX2_drySheets_65 rfl ?_
          refine z_iadd (pc' := 67) X dX2_drySheets_66 rfl ?_
          refine z_istore (pc' := 69) X dX2_drySheets_67 rfl (by decide) rfl ?_
          dsimp only [List.set]
          refine z_iinc (pc' := 72) X dX2_drySheets_69 rfl (by decide) rfl rfl ?_
          dsimp only [List.set]
          refine z_goto (tgt := 6) X dX2_drySheets_72 (by decide) ?_
          refine ZP.wk (L' := [some (vR sh.1), some (vI a), some (vR ((zg C).2.2 b.toNat)), some (vR ((zg C).2.2 (3 + c.toNat))), some (vI _), some (vI _)]) (And.intro rfl (And.intro rfl (And.intro rfl (And.intro rfl (And.intro rfl (And.intro rfl (trivial))))))) ?_
          exact ZP.mono (Nat.le_of_ble_eq_true rfl) (Nat.le_of_ble_eq_true rfl) (ih6 _ _   (by omega) (by rw [tk_map hb.1 hk1, dryL_app, ← hs, dryL_one, if_neg (bI_e0 c42)]) (by omega))
        · refine z_aload_n (pc' := 46) X dX2_drySheets_45 rfl rfl ?_
          refine z_get1 (pc' := 49) (kf := 15) X in_X2 rfl (by decide) q242 (Or.inl rfl) hX.stA rfl dX2_drySheets_46 rfl ?_
          refine z_iload (pc' := 51) X dX2_drySheets_49 rfl rfl ?_
          refine z_rget (pc' := 56) X q549 hX (i := 4) (by decide) (j := k) hk1 (by first | assumption | omega | exact bI_rng2) dX2_drySheets_51 rfl (by decide) (Nat.le_of_ble_eq_true rfl) (Nat.le_of_ble_eq_true rfl) (Nat.le_of_ble_eq_true rfl) (by show (Ls 4).length ≤ 1000; omega) ?_
          refine z_castS1 (pc' := 59) X (ci := 8) q568 rfl ⟨_, (hX.el4 hk1)⟩ dX2_drySheets_56 rfl ?_
          refine z_get1 (pc' := 62) (kf := 3) X in_X10 rfl (by decide) q689 (Or.inl rfl) (hX.el4 hk1) rfl dX2_drySheets_59 rfl ?_
          refine z_goto (tgt := 66) X dX2_drySheets_62 (by decide) ?_
          refine z_iadd (pc' := 67) X dX2_drySheets_66 rfl ?_
          refine z_istore (pc' := 69) X dX2_drySheets_67 rfl (by decide) rfl ?_
          dsimp only [List.set]
          refine z_iinc (pc' := 72) X dX2_drySheets_69 rfl (by decide) rfl rfl ?_
          dsimp only [List.set]
          refine z_goto (tgt := 6) X dX2_drySheets_72 (by decide) ?_
          refine ZP.wk (L' := [some (vR sh.1), some (vI a), some (vR ((zg C).2.2 b.toNat)), some (vR ((zg C).2.2 (3 + c.toNat))), some (vI _), some (vI _)]) (And.intro rfl (And.intro rfl (And.intro rfl (And.intro rfl (And.intro rfl (And.intro rfl (trivial))))))) ?_
          exact ZP.mono (Nat.le_of_ble_eq_true rfl) (Nat.le_of_ble_eq_true rfl) (ih6 _ _   (by omega) (by rw [tk_map hb.1 hk1, dryL_app, ← hs, dryL_one, if_pos (bI_n0 c42)]) (by omega))
  refine ZP.wk (L' := [some (vR sh.1), some (vI a), some (vR ((zg C).2.2 b.toNat)), some (vR ((zg C).2.2 (3 + c.toNat))), some (vI _), some (vI _)]) (And.intro rfl (And.intro rfl (And.intro rfl (And.intro rfl (And.intro rfl (And.intro rfl (trivial))))))) ?_
  exact ZP.mono (Nat.le_of_ble_eq_true rfl) (Nat.le_of_ble_eq_true rfl) (loop6 _ _ _   (by omega) rfl (Nat.lt_succ_self _))
theorem run_up {Ls1 : ELs} {at' : Int} {q : Nat} {e : El} (h0 : 0 ≤ at') (hk : Ls1[at'.toNat]? = some (q, e)) (h : (0 ≤ e.2.2.2.1 ∧ e.2.2.2.1 ≤ 5) ∧ (e.2.2.2.2 = 0 ∨ e.2.2.2.2 = 1)) : runB ((Ls1.map (fun p => abB p.2)).drop at'.toNat) = if e.2.2.2.2 = 0 ∧ 20 ≤ e.2.2.1 then 1 + runB ((Ls1.map (fun p => abB p.2)).drop (at' + 1).toNat) else 0 := by
  have hl := (List.getElem?_eq_some_iff.mp hk).1
  have h1 : (Ls1.map (fun p => abB p.2))[at'.toNat]? = some (abB e) := by rw [List.getElem?_map, hk]; rfl
  have hl2 : at'.toNat < (Ls1.map (fun p => abB p.2)).length := by rw [List.length_map]; exact hl
  rw [List.drop_eq_getElem_cons hl2, show (Ls1.map (fun p => abB p.2))[at'.toNat] = abB e from Option.some.inj ((List.getElem?_eq_getElem hl2).symm.trans h1), runB_c, show (at' + 1).toNat = at'.toNat + 1 by omega]
  have hm := abB_m h
  by_cases hc : e.2.2.2.2 = 0 ∧ 20 ≤ e.2.2.1
  · rw [if_pos hc, if_pos ⟨hm.mpr hc.1, hc.2⟩]
  · rw [if_neg hc, if_neg fun hh => hc ⟨hm.mp hh.1, hh.2⟩]
theorem run_dn {Ls1 : ELs} {at' : Int} {q : Nat} {e : El} (h0 : 0 ≤ at') (hk : Ls1[at'.toNat]? = some (q, e)) (h : (0 ≤ e.2.2.2.1 ∧ e.2.2.2.1 ≤ 5) ∧ (e.2.2.2.2 = 0 ∨ e.2.2.2.2 = 1)) : runB ((Ls1.map (fun p => abB p.2)).take (at' + 1).toNat).reverse = if e.2.2.2.2 = 0 ∧ 20 ≤ e.2.2.1 then 1 + runB ((Ls1.map (fun p => abB p.2)).take at'.toNat).reverse else 0 := by
  have h1 : (Ls1.map (fun p => abB p.2))[at'.toNat]? = some (abB e) := by rw [List.getElem?_map, hk]; rfl
  rw [show (at' + 1).toNat = at'.toNat + 1 by omega, List.take_succ, h1, Option.toList_some, List.reverse_append]
  show runB (abB e :: _) = _
  rw [runB_c]
  have hm := abB_m h
  by_cases hc : e.2.2.2.2 = 0 ∧ 20 ≤ e.2.2.1
  · rw [if_pos hc, if_pos ⟨hm.mpr hc.1, hc.2⟩]
    rfl
  · rw [if_neg hc, if_neg fun hh => hc ⟨hm.mp hh.1, hh.2⟩]
theorem Y_X2_reach : zYV yX2_reach cX2_reach 5 (some .int) 2 := ⟨⟨q1840, qs43, q113, q1841⟩, by decide +kernel, by decide⟩
set_option maxRecDepth 100000 in
theorem c_X2_reach_u (l : Launch) (g : zG) (h : GH) (sh : Sh) (f : Int → Int) (rc : Nat) (Ls : Nat → ELs) (S : St) (w : rW g.2.2 h sh (f, rc, Ls)) (T : tie f Ls S) (hk : okY S) (i : Int) (hi : 0 ≤ i ∧ i < (S.2.1.length : Int)) : zPur l yX2_reach cX2_reach 5 (some .int) 6 [vR sh.1, vI i, vI 1] g h (some (vI (runB (S.2.1.drop (i.toNat + 1))))) := by
  refine zMet.mk (L0 := [some (vR sh.1), some (vI i), some (vI 1), none, none]) (by decide) rfl (Nat.le_of_ble_eq_true rfl) rfl (fun C hg hl hnm X => ?_)
  subst hg hl
  have hX := w.start
  obtain ⟨T0, ⟨Tc, Tc2⟩, ⟨Tb, Tb1, Tb2⟩, ⟨Tv, Tv2⟩, ⟨Tm, Tm2⟩, ⟨Tp, Tp1, Tp2⟩, ⟨Tr, Tr1⟩, Ta, Tz⟩ := id T
  obtain ⟨⟨⟨kc1a, kc1b, kc1c, kc1d, kc1e⟩, kc2, kc3, kc4, kc5⟩, kb, kp, kq⟩ := id hk
  obtain ⟨Tl1, Tl4, Tl5⟩ := T.lens
  have z0 := T0 0 (by omega)
  have z1 := T0 1 (by omega)
  have z2 := T0 2 (by omega)
  have z3 := T0 3 (by omega)
  refine z_iconst (pc' := 1) X dX2_reach_0 rfl ?_
  refine z_istore_n (pc' := 2) X dX2_reach_1 rfl (by decide) rfl ?_
  dsimp only [List.set]
  refine z_iload_n (pc' := 3) X dX2_reach_2 rfl rfl ?_
  refine z_iload_n (pc' := 4) X dX2_reach_3 rfl rfl ?_
  refine z_iadd (pc' := 5) X dX2_reach_4 rfl ?_
  refine z_istore (pc' := 7) X dX2_reach_5 rfl (by decide) rfl ?_
  dsimp only [List.set]
  have loop7 : ∀ (N : Nat) (m at' : Int) , (0 ≤ at' ∧ at' ≤ (S.2.1.length : Int)) → (m + runB (S.2.1.drop at'.toNat) = runB (S.2.1.drop (i.toNat + 1))) → ((S.2.1.length : Int) - at').toNat < N → ZP C 5 (zAt h) (0) (0) [some (vR sh.1), some (vI i), some (vI 1), some (vI m), some (vI at')] 7 [] := by
    intro N
    induction N with
    | zero => intro m at'  hb hs hN; exact absurd hN (Nat.not_lt_zero _)
    | succ N ih7 =>
      intro m at'  hb hs hN
      refine z_iload (pc' := 9) X dX2_reach_7 rfl rfl ?_
      refine z_if_lt (tgt := 58) (pc' := 12) X (by first | assumption | omega | exact bI_rng2) dX2_reach_9 rfl (by decide) (fun c9 => ?_) (fun c9 => ?_)
      · refine z_iload_n (pc' := 59) X dX2_reach_58 rfl rfl ?_
        refine z_iret1 X dX2_reach_59 (Nat.le_of_ble_eq_true rfl) (Nat.le_of_ble_eq_true rfl) ?_
        exact absurd c9 (by omega)
      · refine z_iload (pc' := 14) X dX2_reach_12 rfl rfl ?_
        refine z_aload_n (pc' := 15) X dX2_reach_14 rfl rfl ?_
        refine z_get1 (pc' := 18) (kf := 12) X in_X2 rfl (by decide) q236 (Or.inl rfl) hX.stA rfl dX2_reach_15 rfl ?_
        refine z_rsize (pc' := 23) X q547 hX (i := 1) (by decide) dX2_reach_18 rfl (by decide) (Nat.le_of_ble_eq_true rfl) (Nat.le_of_ble_eq_true rfl) (Nat.le_of_ble_eq_true rfl) ?_
        refine z_icmp_ge (tgt := 58) (pc' := 26) X (by first | assumption | omega | exact bI_rng2) (by first | assumption | omega | exact bI_rng2) dX2_reach_23 rfl (by decide) (fun c23 => ?_) (fun c23 => ?_)
        · refine z_iload_n (pc' := 59) X dX2_reach_58 rfl rfl ?_
          refine z_iret1 X dX2_reach_59 (Nat.le_of_ble_eq_true rfl) (Nat.le_of_ble_eq_true rfl) ?_
          refine ⟨?_, rfl⟩
          rw [List.drop_of_length_le (by omega)] at hs
          have e0 : runB ([] : List Bl) = 0 := rfl
          rw [e0] at hs
          rw [← hs, Int.add_zero]
        · refine z_aload_n (pc' := 27) X dX2_reach_26 rfl rfl ?_
          refine z_get1 (pc' := 30) (kf := 12) X in_X2 rfl (by decide) q236 (Or.inl rfl) hX.stA rfl dX2_reach_27 rfl ?_
          refine z_iload (pc' := 32) X dX2_reach_30 rfl rfl ?_
          obtain ⟨q1, e1, hk1⟩ := ELs.at (ps := Ls 1) (k := at') (by first | assumption | omega | exact bI_rng2)
          have b1 := T.bale hk hk1
          refine z_rget (pc' := 37) X q549 hX (i := 1) (by decide) (j := at') hk1 (by first | assumption | omega | exact bI_rng2) dX2_reach_32 rfl (by decide) (Nat.le_of_ble_eq_true rfl) (Nat.le_of_ble_eq_true rfl) (Nat.le_of_ble_eq_true rfl) (by show (Ls 1).length ≤ 1000; omega) ?_
          refine z_castS1 (pc' := 40) X (ci := 7) q567 rfl ⟨_, (hX.el1 hk1)⟩ dX2_reach_37 rfl ?_
          refine z_callV0 (pc' := 43) X Y_X9_catchesMould q724 dX2_reach_40 rfl (Nat.le_of_ble_eq_true rfl) (Nat.le_of_ble_eq_true rfl) (Nat.le_of_ble_eq_true rfl) rfl rfl (Nat.le_of_ble_eq_true rfl) rfl ⟨_, (hX.el1 hk1)⟩ (c_X9_catchesMould _ _ _ (q1) (e1.1) (e1.2.1) (e1.2.2.1) (e1.2.2.2.1) (e1.2.2.2.2) (hX.el1 hk1) (by omega) (by omega)) ?_
          dsimp only [zst]
          refine z_if_eq (tgt := 58) (pc' := 46) X (by first | assumption | omega | exact bI_rng2) dX2_reach_43 rfl (by decide) (fun c43 => ?_) (fun c43 => ?_)
          · refine z_iload_n (pc' := 59) X dX2_reach_58 rfl rfl ?_
            refine z_iret1 X dX2_reach_59 (Nat.le_of_ble_eq_true rfl) (Nat.le_of_ble_eq_true rfl) ?_
            refine ⟨?_, rfl⟩
            have t := run_up hb.1 hk1 ⟨b1.2.2.2.1, b1.2.2.2.2⟩
            rw [Tb, if_neg (bI_e0 c43)] at t
            rw [t] at hs
            rw [← hs, Int.add_zero]
          · refine z_iinc (pc' := 49) X dX2_reach_46 rfl (by decide) rfl rfl ?_
            dsimp only [List.set]
            refine z_iload (pc' := 51) X dX2_reach_49 rfl rfl ?_
            refine z_iload_n (pc' := 52) X dX2_reach_51 rfl rfl ?_
            refine z_iadd (pc' := 53) X dX2_reach_52 rfl ?_
            refine z_istore (pc' := 55) X dX2_reach_53 rfl (by decide) rfl ?_
            dsimp only [List.set]
            refine z_goto (tgt := 7) X dX2_reach_55 (by decide) ?_
            refine ZP.wk (L' := [some (vR sh.1), some (vI i), some (vI 1), some (vI _), some (vI _)]) (And.intro rfl (And.intro rfl (And.intro rfl (And.intro rfl (And.intro rfl (trivial)))))) ?_
            exact ZP.mono (Nat.le_of_ble_eq_true rfl) (Nat.le_of_ble_eq_true rfl) (ih7 _ _   (by omega) (by have t := run_up hb.1 hk1 ⟨b1.2.2.2.1, b1.2.2.2.2⟩; rw [Tb, if_pos (bI_n0 c43)] at t; omega) (by omega))
  refine ZP.wk (L' := [some (vR sh.1), some (vI i), some (vI 1), some (vI _), some (vI _)]) (And.intro rfl (And.intro rfl (And.intro rfl (And.intro rfl (And.intro rfl (trivial)))))) ?_
  exact ZP.mono (Nat.le_of_ble_eq_true rfl) (Nat.le_of_ble_eq_true rfl) (loop7 _ _ _   (by omega) (by rw [show (i + 1).toNat = i.toNat + 1 by omega, Int.zero_add]) (Nat.lt_succ_self _))
set_option maxRecDepth 100000 in
theorem c_X2_reach_d (l : Launch) (g : zG) (h : GH) (sh : Sh) (f : Int → Int) (rc : Nat) (Ls : Nat → ELs) (S : St) (w : rW g.2.2 h sh (f, rc, Ls)) (T : tie f Ls S) (hk : okY S) (i : Int) (hi : 0 ≤ i ∧ i < (S.2.1.length : Int)) : zPur l yX2_reach cX2_reach 5 (some .int) 6 [vR sh.1, vI i, vI (-1)] g h (some (vI (runB (S.2.1.take i.toNat).reverse))) := by
  refine zMet.mk (L0 := [some (vR sh.1), some (vI i), some (vI (-1)), none, none]) (by decide) rfl (Nat.le_of_ble_eq_true rfl) rfl (fun C hg hl hnm X => ?_)
  subst hg hl
  have hX := w.start
  obtain ⟨T0, ⟨Tc, Tc2⟩, ⟨Tb, Tb1, Tb2⟩, ⟨Tv, Tv2⟩, ⟨Tm, Tm2⟩, ⟨Tp, Tp1, Tp2⟩, ⟨Tr, Tr1⟩, Ta, Tz⟩ := id T
  obtain ⟨⟨⟨kc1a, kc1b, kc1c, kc1d, kc1e⟩, kc2, kc3, kc4, kc5⟩, kb, kp, kq⟩ := id hk
  obtain ⟨Tl1, Tl4, Tl5⟩ := T.lens
  have z0 := T0 0 (by omega)
  have z1 := T0 1 (by omega)
  have z2 := T0 2 (by omega)
  have z3 := T0 3 (by omega)
  refine z_iconst (pc' := 1) X dX2_reach_0 rfl ?_
  refine z_istore_n (pc' := 2) X dX2_reach_1 rfl (by decide) rfl ?_
  dsimp only [List.set]
  refine z_iload_n (pc' := 3) X dX2_reach_2 rfl rfl ?_
  refine z_iload_n (pc' := 4) X dX2_reach_3 rfl rfl ?_
  refine z_iadd (pc' := 5) X dX2_reach_4 rfl ?_
  refine z_istore (pc' := 7) X dX2_reach_5 rfl (by decide) rfl ?_
  dsimp only [List.set]
  have loop7 : ∀ (N : Nat) (m at' : Int) , (-1 ≤ at' ∧ at' < (S.2.1.length : Int)) → (m + runB (S.2.1.take (at' + 1).toNat).reverse = runB (S.2.1.take i.toNat).reverse) → (at' + 1).toNat < N → ZP C 5 (zAt h) (0) (0) [some (vR sh.1), some (vI i), some (vI (-1)), some (vI m), some (vI at')] 7 [] := by
    intro N
    induction N with
    | zero => intro m at'  hb hs hN; exact absurd hN (Nat.not_lt_zero _)
    | succ N ih7 =>
      intro m at'  hb hs hN
      refine z_iload (pc' := 9) X dX2_reach_7 rfl rfl ?_
      refine z_if_lt (tgt := 58) (pc' := 12) X (by first | assumption | omega | exact bI_rng2) dX2_reach_9 rfl (by decide) (fun c9 => ?_) (fun c9 => ?_)
      · refine z_iload_n (pc' := 59) X dX2_reach_58 rfl rfl ?_
        refine z_iret1 X dX2_reach_59 (Nat.le_of_ble_eq_true rfl) (Nat.le_of_ble_eq_true rfl) ?_
        refine ⟨?_, rfl⟩
        rw [show (at' + 1).toNat = 0 by omega] at hs
        have e0 : runB ([] : List Bl).reverse = 0 := rfl
        rw [List.take_zero, e0] at hs
        rw [← hs, Int.add_zero]
      · refine z_iload (pc' := 14) X dX2_reach_12 rfl rfl ?_
        refine z_aload_n (pc' := 15) X dX2_reach_14 rfl rfl ?_
        refine z_get1 (pc' := 18) (kf := 12) X in_X2 rfl (by decide) q236 (Or.inl rfl) hX.stA rfl dX2_reach_15 rfl ?_
        refine z_rsize (pc' := 23) X q547 hX (i := 1) (by decide) dX2_reach_18 rfl (by decide) (Nat.le_of_ble_eq_true rfl) (Nat.le_of_ble_eq_true rfl) (Nat.le_of_ble_eq_true rfl) ?_
        refine z_icmp_ge (tgt := 58) (pc' := 26) X (by first | assumption | omega | exact bI_rng2) (by first | assumption | omega | exact bI_rng2) dX2_reach_23 rfl (by decide) (fun c23 => ?_) (fun c23 => ?_)
        · refine z_iload_n (pc' := 59) X dX2_reach_58 rfl rfl ?_
          refine z_iret1 X dX2_reach_59 (Nat.le_of_ble_eq_true rfl) (Nat.le_of_ble_eq_true rfl) ?_
          exact absurd c23 (by omega)
        · refine z_aload_n (pc' := 27) X dX2_reach_26 rfl rfl ?_
          refine z_get1 (pc' := 30) (kf := 12) X in_X2 rfl (by decide) q236 (Or.inl rfl) hX.stA rfl dX2_reach_27 rfl ?_
          refine z_iload (pc' := 32) X dX2_reach_30 rfl rfl ?_
          obtain ⟨q1, e1, hk1⟩ := ELs.at (ps := Ls 1) (k := at') (by first | assumption | omega | exact bI_rng2)
          have b1 := T.bale hk hk1
          refine z_rget (pc' := 37) X q549 hX (i := 1) (by decide) (j := at') hk1 (by first | assumption | omega | exact bI_rng2) dX2_reach_32 rfl (by decide) (Nat.le_of_ble_eq_true rfl) (Nat.le_of_ble_eq_true rfl) (Nat.le_of_ble_eq_true rfl) (by show (Ls 1).length ≤ 1000; omega) ?_
          refine z_castS1 (pc' := 40) X (ci := 7) q567 rfl ⟨_, (hX.el1 hk1)⟩ dX2_reach_37 rfl ?_
          refine z_callV0 (pc' := 43) X Y_X9_catchesMould q724 dX2_reach_40 rfl (Nat.le_of_ble_eq_true rfl) (Nat.le_of_ble_eq_true rfl) (Nat.le_of_ble_eq_true rfl) rfl rfl (Nat.le_of_ble_eq_true rfl) rfl ⟨_, (hX.el1 hk1)⟩ (c_X9_catchesMould _ _ _ (q1) (e1.1) (e1.2.1) (e1.2.2.1) (e1.2.2.2.1) (e1.2.2.2.2) (hX.el1 hk1) (by omega) (by omega)) ?_
          dsimp only [zst]
          refine z_if_eq (tgt := 58) (pc' := 46) X (by first | assumption | omega | exact bI_rng2) dX2_reach_43 rfl (by decide) (fun c43 => ?_) (fun c43 => ?_)
          · refine z_iload_n (pc' := 59) X dX2_reach_58 rfl rfl ?_
            refine z_iret1 X dX2_reach_59 (Nat.le_of_ble_eq_true rfl) (Nat.le_of_ble_eq_true rfl) ?_
            refine ⟨?_, rfl⟩
            have t := run_dn (by omega) hk1 ⟨b1.2.2.2.1, b1.2.2.2.2⟩
            rw [Tb, if_neg (bI_e0 c43)] at t
            rw [t] at hs
            rw [← hs, Int.add_zero]
          · refine z_iinc (pc' := 49) X dX2_reach_46 rfl (by decide) rfl rfl ?_
            dsimp only [List.set]
            refine z_iload (pc' := 51) X dX2_reach_49 rfl rfl ?_
            refine z_iload_n (pc' := 52) X dX2_reach_51 rfl rfl ?_
            refine z_iadd (pc' := 53) X dX2_reach_52 rfl ?_
            refine z_istore (pc' := 55) X dX2_reach_53 rfl (by decide) rfl ?_
            dsimp only [List.set]
            refine z_goto (tgt := 7) X dX2_reach_55 (by decide) ?_
            refine ZP.wk (L' := [some (vR sh.1), some (vI i), some (vI (-1)), some (vI _), some (vI _)]) (And.intro rfl (And.intro rfl (And.intro rfl (And.intro rfl (And.intro rfl (trivial)))))) ?_
            exact ZP.mono (Nat.le_of_ble_eq_true rfl) (Nat.le_of_ble_eq_true rfl) (ih7 _ _   (by omega) (by have t := run_dn (by omega) hk1 ⟨b1.2.2.2.1, b1.2.2.2.2⟩; rw [Tb, if_pos (bI_n0 c43)] at t; rw [show at' + -1 + 1 = at' by omega]; omega) (by omega))
  refine ZP.wk (L' := [some (vR sh.1), some (vI i), some (vI (-1)), some (vI _), some (vI _)]) (And.intro rfl (And.intro rfl (And.intro rfl (And.intro rfl (And.intro rfl (trivial)))))) ?_
  exact ZP.mono (Nat.le_of_ble_eq_true rfl) (Nat.le_of_ble_eq_true rfl) (loop7 _ _ _   (by omega) (by rw [show i + -1 + 1 = i by omega, Int.zero_add]) (Nat.lt_succ_self _))
theorem Y_X2_mouldReach : zYV yX2_mouldReach cX2_mouldReach 2 (some .int) 1 := ⟨⟨q1835, q1836, q113, q1837⟩, by decide +kernel, by decide⟩
set_option maxRecDepth 100000 in
theorem c_X2_mouldReach (l : Launch) (g : zG) (h : GH) (sh : Sh) (f : Int → Int) (rc : Nat) (Ls : Nat → ELs) (S : St) (w : rW g.2.2 h sh (f, rc, Ls)) (T : tie f Ls S) (hk : okY S) (i : Int) (hi : 0 ≤ i ∧ i < (S.2.1.length : Int)) : zPur l yX2_mouldReach cX2_mouldReach 2 (some .int) 8 [vR sh.1, vI i] g h (some (vI (reachS S.2.1 i))) := by
  refine zMet.mk (L0 := [some (vR sh.1), some (vI i)]) (by decide) rfl (Nat.le_of_ble_eq_true rfl) rfl (fun C hg hl hnm X => ?_)
  subst hg hl
  have hX := w.start
  obtain ⟨T0, ⟨Tc, Tc2⟩, ⟨Tb, Tb1, Tb2⟩, ⟨Tv, Tv2⟩, ⟨Tm, Tm2⟩, ⟨Tp, Tp1, Tp2⟩, ⟨Tr, Tr1⟩, Ta, Tz⟩ := id T
  obtain ⟨⟨⟨kc1a, kc1b, kc1c, kc1d, kc1e⟩, kc2, kc3, kc4, kc5⟩, kb, kp, kq⟩ := id hk
  obtain ⟨Tl1, Tl4, Tl5⟩ := T.lens
  have z0 := T0 0 (by omega)
  have z1 := T0 1 (by omega)
  have z2 := T0 2 (by omega)
  have z3 := T0 3 (by omega)
  refine z_aload_n (pc' := 1) X dX2_mouldReach_0 rfl rfl ?_
  refine z_iload_n (pc' := 2) X dX2_mouldReach_1 rfl rfl ?_
  refine z_iconst (pc' := 3) X dX2_mouldReach_2 rfl ?_
  refine z_callV0 (pc' := 6) X Y_X2_reach q1838 dX2_mouldReach_3 rfl (Nat.le_of_ble_eq_true rfl) (Nat.le_of_ble_eq_true rfl) (Nat.le_of_ble_eq_true rfl) rfl rfl (Nat.le_of_ble_eq_true rfl) rfl ⟨_, hX.stA⟩ (c_X2_reach_u _ _ _ sh (f) rc (Ls) S hX.1 T hk (i) (by first | assumption | omega)) ?_
  dsimp only [zst]
  refine z_aload_n (pc' := 7) X dX2_mouldReach_6 rfl rfl ?_
  refine z_iload_n (pc' := 8) X dX2_mouldReach_7 rfl rfl ?_
  refine z_iconst (pc' := 9) X dX2_mouldReach_8 rfl ?_
  refine z_callV0 (pc' := 12) X Y_X2_reach q1838 dX2_mouldReach_9 rfl (Nat.le_of_ble_eq_true rfl) (Nat.le_of_ble_eq_true rfl) (Nat.le_of_ble_eq_true rfl) rfl rfl (Nat.le_of_ble_eq_true rfl) rfl ⟨_, hX.stA⟩ (c_X2_reach_d _ _ _ sh (f) rc (Ls) S hX.1 T hk (i) (by first | assumption | omega)) ?_
  dsimp only [zst]
  refine z_iadd (pc' := 13) X dX2_mouldReach_12 rfl ?_
  refine z_iret1 X dX2_mouldReach_13 (Nat.le_of_ble_eq_true rfl) (Nat.le_of_ble_eq_true rfl) ?_
  exact ⟨rfl, rfl⟩
theorem tie.vsum {f : Int → Int} {Ls : Nat → ELs} {S : St} (T : tie f Ls S) : lsum (fun e : El => e.1) ((Ls 2).map Prod.snd) = S.1 117 + S.1 120 + S.1 123 := by
  obtain ⟨-, -, -, ⟨hl, hv⟩, -⟩ := T
  match hx : Ls 2, hl with
  | [p0, p1, p2], _ =>
    have e0 := (hv 0 p0.1 p0.2 (by rw [hx]; rfl)).1
    have e1 := (hv 1 p1.1 p1.2 (by rw [hx]; rfl)).1
    have e2 := (hv 2 p2.1 p2.2 (by rw [hx]; rfl)).1
    show p0.2.1 + (p1.2.1 + (p2.2.1 + 0)) = _
    rw [e0, e1, e2]
    show S.1 117 + (S.1 120 + (S.1 123 + 0)) = _
    omega
theorem tie.rsum {f : Int → Int} {Ls : Nat → ELs} {S : St} (T : tie f Ls S) : lsum (fun t : Int × Int × Int => t.2.2 * 24 * mZ t.1) ((Ls 5).map (fun p => (p.2.1, p.2.2.1, p.2.2.2.1))) = lsum unitsQ S.2.2.2 := by
  rw [T.2.2.2.2.2.2.1.1, lsum_map]
  rfl
theorem Y_X2_unitsByPlaces : zYV yX2_unitsByPlaces cX2_unitsByPlaces 3 (some .int) 0 := ⟨⟨q543, q544, q113, q545⟩, by decide +kernel, by decide⟩
set_option maxRecDepth 100000 in
theorem c_X2_unitsByPlaces (l : Launch) (g : zG) (h : GH) (sh : Sh) (f : Int → Int) (rc : Nat) (Ls : Nat → ELs) (S : St) (w : rW g.2.2 h sh (f, rc, Ls)) (T : tie f Ls S) (hk : okY S)  : zPur l yX2_unitsByPlaces cX2_unitsByPlaces 3 (some .int) 6 [vR sh.1] g h (some (vI (unitsS S))) := by
  refine zMet.mk (L0 := [some (vR sh.1), none, none]) (by decide) rfl (Nat.le_of_ble_eq_true rfl) rfl (fun C hg hl hnm X => ?_)
  subst hg hl
  have hX := w.start
  obtain ⟨T0, ⟨Tc, Tc2⟩, ⟨Tb, Tb1, Tb2⟩, ⟨Tv, Tv2⟩, ⟨Tm, Tm2⟩, ⟨Tp, Tp1, Tp2⟩, ⟨Tr, Tr1⟩, Ta, Tz⟩ := id T
  obtain ⟨⟨⟨kc1a, kc1b, kc1c, kc1d, kc1e⟩, kc2, kc3, kc4, kc5⟩, kb, kp, kq⟩ := id hk
  obtain ⟨Tl1, Tl4, Tl5⟩ := T.lens
  have z0 := T0 0 (by omega)
  have z1 := T0 1 (by omega)
  have z2 := T0 2 (by omega)
  have z3 := T0 3 (by omega)
  have z7 := T0 7 (by omega)
  refine z_aload_n (pc' := 1) X dX2_unitsByPlaces_0 rfl rfl ?_
  refine z_get1 (pc' := 4) (kf := 9) X in_X2 rfl (by decide) q230 (Or.inl rfl) hX.stA rfl dX2_unitsByPlaces_1 rfl ?_
  refine z_istore_n (pc' := 5) X dX2_unitsByPlaces_4 rfl (by decide) rfl ?_
  dsimp only [List.set]
  refine z_iconst (pc' := 6) X dX2_unitsByPlaces_5 rfl ?_
  refine z_istore_n (pc' := 7) X dX2_unitsByPlaces_6 rfl (by decide) rfl ?_
  dsimp only [List.set]
  have loop7 : ∀ (N : Nat) (u1 k1 : Int) , (0 ≤ k1 ∧ k1 ≤ ((Ls 1).length : Int)) → (u1 = S.1 7 + lsum (fun b : Bl => 40 * b.2.1) (((Ls 1).take k1.toNat).map (fun p : Nat × El => abB p.2))) → (((Ls 1).length : Int) - k1).toNat < N → ZP C 3 (zAt h) (0) (0) [some (vR sh.1), some (vI u1), some (vI k1)] 7 [] := by
    intro N
    induction N with
    | zero => intro u1 k1  hb1 hs1 hN; exact absurd hN (Nat.not_lt_zero _)
    | succ N ih7 =>
      intro u1 k1  hb1 hs1 hN
      refine z_iload_n (pc' := 8) X dX2_unitsByPlaces_7 rfl rfl ?_
      refine z_aload_n (pc' := 9) X dX2_unitsByPlaces_8 rfl rfl ?_
      refine z_get1 (pc' := 12) (kf := 12) X in_X2 rfl (by decide) q236 (Or.inl rfl) hX.stA rfl dX2_unitsByPlaces_9 rfl ?_
      refine z_rsize (pc' := 17) X q547 hX (i := 1) (by decide) dX2_unitsByPlaces_12 rfl (by decide) (Nat.le_of_ble_eq_true rfl) (Nat.le_of_ble_eq_true rfl) (Nat.le_of_ble_eq_true rfl) ?_
      refine z_icmp_ge (tgt := 48) (pc' := 20) X (by first | assumption | omega) (by first | assumption | omega) dX2_unitsByPlaces_17 rfl (by decide) (fun c17 => ?_) (fun c17 => ?_)
      · refine z_iconst (pc' := 49) X dX2_unitsByPlaces_48 rfl ?_
        refine z_istore_n (pc' := 50) X dX2_unitsByPlaces_49 rfl (by decide) rfl ?_
        dsimp only [List.set]
        have loop50 : ∀ (N : Nat) (u2 k2 : Int) , (0 ≤ k2 ∧ k2 ≤ ((Ls 2).length : Int)) → (u2 = S.1 7 + lsum (fun b : Bl => 40 * b.2.1) S.2.1 + lsum (fun e : El => e.1) (((Ls 2).take k2.toNat).map Prod.snd)) → (((Ls 2).length : Int) - k2).toNat < N → ZP C 3 (zAt h) (0) (0) [some (vR sh.1), some (vI u2), some (vI k2)] 50 [] := by
          intro N
          induction N with
          | zero => intro u2 k2  hb2 hs2 hN; exact absurd hN (Nat.not_lt_zero _)
          | succ N ih50 =>
            intro u2 k2  hb2 hs2 hN
            refine z_iload_n (pc' := 51) X dX2_unitsByPlaces_50 rfl rfl ?_
            refine z_aload_n (pc' := 52) X dX2_unitsByPlaces_51 rfl rfl ?_
            refine z_get1 (pc' := 55) (kf := 13) X in_X2 rfl (by decide) q238 (Or.inl rfl) hX.stA rfl dX2_unitsByPlaces_52 rfl ?_
            refine z_rsize (pc' := 60) X q547 hX (i := 2) (by decide) dX2_unitsByPlaces_55 rfl (by decide) (Nat.le_of_ble_eq_true rfl) (Nat.le_of_ble_eq_true rfl) (Nat.le_of_ble_eq_true rfl) ?_
            refine z_icmp_ge (tgt := 88) (pc' := 63) X (by first | assumption | omega) (by first | assumption | omega) dX2_unitsByPlaces_60 rfl (by decide) (fun c60 => ?_) (fun c60 => ?_)
            · refine z_iconst (pc' := 89) X dX2_unitsByPlaces_88 rfl ?_
              refine z_istore_n (pc' := 90) X dX2_unitsByPlaces_89 rfl (by decide) rfl ?_
              dsimp only [List.set]
              have loop90 : ∀ (N : Nat) (u3 k3 : Int) , (0 ≤ k3 ∧ k3 ≤ ((Ls 4).length : Int)) → (u3 = S.1 7 + lsum (fun b : Bl => 40 * b.2.1) S.2.1 + (S.1 117 + S.1 120 + S.1 123) + lsum (fun p : Pl => p.2.2.2.1 * mZ p.2.1) (((Ls 4).take k3.toNat).map Prod.snd)) → (((Ls 4).length : Int) - k3).toNat < N → ZP C 3 (zAt h) (0) (0) [some (vR sh.1), some (vI u3), some (vI k3)] 90 [] := by
                intro N
                induction N with
                | zero => intro u3 k3  hb3 hs3 hN; exact absurd hN (Nat.not_lt_zero _)
                | succ N ih90 =>
                  intro u3 k3  hb3 hs3 hN
                  refine z_iload_n (pc' := 91) X dX2_unitsByPlaces_90 rfl rfl ?_
                  refine z_aload_n (pc' := 92) X dX2_unitsByPlaces_91 rfl rfl ?_
                  refine z_get1 (pc' := 95) (kf := 15) X in_X2 rfl (by decide) q242 (Or.inl rfl) hX.stA rfl dX2_unitsByPlaces_92 rfl ?_
                  refine z_rsize (pc' := 100) X q547 hX (i := 4) (by decide) dX2_unitsByPlaces_95 rfl (by decide) (Nat.le_of_ble_eq_true rfl) (Nat.le_of_ble_eq_true rfl) (Nat.le_of_ble_eq_true rfl) ?_
                  refine z_icmp_ge (tgt := 148) (pc' := 103) X (by first | assumption | omega) (by first | assumption | omega) dX2_unitsByPlaces_100 rfl (by decide) (fun c100 => ?_) (fun c100 => ?_)
                  · refine z_iconst (pc' := 149) X dX2_unitsByPlaces_148 rfl ?_
                    refine z_istore_n (pc' := 150) X dX2_unitsByPlaces_149 rfl (by decide) rfl ?_
                    dsimp only [List.set]
                    have loop150 : ∀ (N : Nat) (u4 k4 : Int) , (0 ≤ k4 ∧ k4 ≤ ((Ls 5).length : Int)) → (u4 = S.1 7 + lsum (fun b : Bl => 40 * b.2.1) S.2.1 + (S.1 117 + S.1 120 + S.1 123) + lsum (fun p : Pl => p.2.2.2.1 * mZ p.2.1) S.2.2.1 + lsum (fun t : Int × Int × Int => t.2.2 * 24 * mZ t.1) (((Ls 5).take k4.toNat).map (fun p => (p.2.1, p.2.2.1, p.2.2.2.1)))) → (((Ls 5).length : Int) - k4).toNat < N → ZP C 3 (zAt h) (0) (0) [some (vR sh.1), some (vI u4), some (vI k4)] 150 [] := by
                      intro N
                      induction N with
                      | zero => intro u4 k4  hb4 hs4 hN; exact absurd hN (Nat.not_lt_zero _)
                      | succ N ih150 =>
                        intro u4 k4  hb4 hs4 hN
                        refine z_iload_n (pc' := 151) X dX2_unitsByPlaces_150 rfl rfl ?_
                        refine z_aload_n (pc' := 152) X dX2_unitsByPlaces_151 rfl rfl ?_
                        refine z_get1 (pc' := 155) (kf := 16) X in_X2 rfl (by decide) q244 (Or.inl rfl) hX.stA rfl dX2_unitsByPlaces_152 rfl ?_
                        refine z_rsize (pc' := 160) X q547 hX (i := 5) (by decide) dX2_unitsByPlaces_155 rfl (by decide) (Nat.le_of_ble_eq_true rfl) (Nat.le_of_ble_eq_true rfl) (Nat.le_of_ble_eq_true rfl) ?_
                        refine z_icmp_ge (tgt := 188) (pc' := 163) X (by first | assumption | omega) (by first | assumption | omega) dX2_unitsByPlaces_160 rfl (by decide) (fun c160 => ?_) (fun c160 => ?_)
                        · refine z_iload_n (pc' := 189) X dX2_unitsByPlaces_188 rfl rfl ?_
                          refine z_iret1 X dX2_unitsByPlaces_189 (Nat.le_of_ble_eq_true rfl) (Nat.le_of_ble_eq_true rfl) ?_
                          unfold unitsS
                          exact ⟨by rw [hs4, tk_end (by omega), T.rsum], rfl⟩
                        · refine z_iload_n (pc' := 164) X dX2_unitsByPlaces_163 rfl rfl ?_
                          refine z_aload_n (pc' := 165) X dX2_unitsByPlaces_164 rfl rfl ?_
                          refine z_get1 (pc' := 168) (kf := 16) X in_X2 rfl (by decide) q244 (Or.inl rfl) hX.stA rfl dX2_unitsByPlaces_165 rfl ?_
                          refine z_iload_n (pc' := 169) X dX2_unitsByPlaces_168 rfl rfl ?_
                          obtain ⟨q1, e1, hk1⟩ := ELs.at (ps := Ls 5) (k := k4) (by first | assumption | omega)
                          have b1 := T.ream hk hk1
                          refine z_rget (pc' := 174) X q549 hX (i := 5) (by decide) (j := k4) hk1 (by first | assumption | omega) dX2_unitsByPlaces_169 rfl (by decide) (Nat.le_of_ble_eq_true rfl) (Nat.le_of_ble_eq_true rfl) (Nat.le_of_ble_eq_true rfl) (by show (Ls 5).length ≤ 1000; omega) ?_
                          refine z_castS1 (pc' := 177) X (ci := 9) q581 rfl ⟨_, (hX.el5 hk1)⟩ dX2_unitsByPlaces_174 rfl ?_
                          refine z_callV0 (pc' := 180) X Y_X12_units q582 dX2_unitsByPlaces_177 rfl (Nat.le_of_ble_eq_true rfl) (Nat.le_of_ble_eq_true rfl) (Nat.le_of_ble_eq_true rfl) rfl rfl (Nat.le_of_ble_eq_true rfl) rfl ⟨_, (hX.el5 hk1)⟩ (c_X12_units _ _ _ (q1) (e1.1) (e1.2.1) (e1.2.2.1) (hX.el5 hk1) (by omega) (by omega) (by omega)) ?_
                          dsimp only [zst]
                          refine z_iadd (pc' := 181) X dX2_unitsByPlaces_180 rfl ?_
                          refine z_istore_n (pc' := 182) X dX2_unitsByPlaces_181 rfl (by decide) rfl ?_
                          dsimp only [List.set]
                          refine z_iinc (pc' := 185) X dX2_unitsByPlaces_182 rfl (by decide) rfl rfl ?_
                          dsimp only [List.set]
                          refine z_goto (tgt := 150) X dX2_unitsByPlaces_185 (by decide) ?_
                          refine ZP.wk (L' := [some (vR sh.1), some (vI _), some (vI _)]) (And.intro rfl (And.intro rfl (And.intro rfl (trivial)))) ?_
                          exact ZP.mono (Nat.le_of_ble_eq_true rfl) (Nat.le_of_ble_eq_true rfl) (ih150 _ _   (by omega) (by rw [tk_map hb4.1 hk1, lsum_app, lsum_one, hs4]; rw [szU_mZ, Int.add_assoc]; congr 2; show 24 * _ * _ = _ * 24 * _; rw [Int.mul_comm 24]) (by omega))
                    refine ZP.wk (L' := [some (vR sh.1), some (vI _), some (vI _)]) (And.intro rfl (And.intro rfl (And.intro rfl (trivial)))) ?_
                    exact ZP.mono (Nat.le_of_ble_eq_true rfl) (Nat.le_of_ble_eq_true rfl) (loop150 _ _ _   (by omega) (by rw [hs3, tk_end (by omega), Tp]; exact (Int.add_zero _).symm) (Nat.lt_succ_self _))
                  · refine z_iload_n (pc' := 104) X dX2_unitsByPlaces_103 rfl rfl ?_
                    refine z_aload_n (pc' := 105) X dX2_unitsByPlaces_104 rfl rfl ?_
                    refine z_get1 (pc' := 108) (kf := 15) X in_X2 rfl (by decide) q242 (Or.inl rfl) hX.stA rfl dX2_unitsByPlaces_105 rfl ?_
                    refine z_iload_n (pc' := 109) X dX2_unitsByPlaces_108 rfl rfl ?_
                    obtain ⟨q3, e3, hk3⟩ := ELs.at (ps := Ls 4) (k := k3) (by first | assumption | omega)
                    have b3 := T.pile hk hk3
                    refine z_rget (pc' := 114) X q549 hX (i := 4) (by decide) (j := k3) hk3 (by first | assumption | omega) dX2_unitsByPlaces_109 rfl (by decide) (Nat.le_of_ble_eq_true rfl) (Nat.le_of_ble_eq_true rfl) (Nat.le_of_ble_eq_true rfl) (by show (Ls 4).length ≤ 1000; omega) ?_
                    refine z_castS1 (pc' := 117) X (ci := 8) q568 rfl ⟨_, (hX.el4 hk3)⟩ dX2_unitsByPlaces_114 rfl ?_
                    refine z_get1 (pc' := 120) (kf := 3) X in_X10 rfl (by decide) q689 (Or.inl rfl) (hX.el4 hk3) rfl dX2_unitsByPlaces_117 rfl ?_
                    refine z_aload_n (pc' := 121) X dX2_unitsByPlaces_120 rfl rfl ?_
                    refine z_get1 (pc' := 124) (kf := 15) X in_X2 rfl (by decide) q242 (Or.inl rfl) hX.stA rfl dX2_unitsByPlaces_121 rfl ?_
                    refine z_iload_n (pc' := 125) X dX2_unitsByPlaces_124 rfl rfl ?_
                    refine z_rget (pc' := 130) X q549 hX (i := 4) (by decide) (j := k3) hk3 (by first | assumption | omega) dX2_unitsByPlaces_125 rfl (by decide) (Nat.le_of_ble_eq_true rfl) (Nat.le_of_ble_eq_true rfl) (Nat.le_of_ble_eq_true rfl) (by show (Ls 4).length ≤ 1000; omega) ?_
                    refine z_castS1 (pc' := 133) X (ci := 8) q568 rfl ⟨_, (hX.el4 hk3)⟩ dX2_unitsByPlaces_130 rfl ?_
                    refine z_get1 (pc' := 136) (kf := 1) X in_X10 rfl (by decide) q685 (Or.inl rfl) (hX.el4 hk3) rfl dX2_unitsByPlaces_133 rfl ?_
                    refine z_szunits (z := e3.2.1) (pc' := 139) X q569 (by first | assumption | omega) dX2_unitsByPlaces_136 rfl (Nat.le_of_ble_eq_true rfl) (Nat.le_of_ble_eq_true rfl) (Nat.le_of_ble_eq_true rfl) (Nat.le_of_ble_eq_true rfl) ?_
                    refine z_imul (pc' := 140) X dX2_unitsByPlaces_139 rfl ?_
                    refine z_iadd (pc' := 141) X dX2_unitsByPlaces_140 rfl ?_
                    refine z_istore_n (pc' := 142) X dX2_unitsByPlaces_141 rfl (by decide) rfl ?_
                    dsimp only [List.set]
                    refine z_iinc (pc' := 145) X dX2_unitsByPlaces_142 rfl (by decide) rfl rfl ?_
                    dsimp only [List.set]
                    refine z_goto (tgt := 90) X dX2_unitsByPlaces_145 (by decide) ?_
                    refine ZP.wk (L' := [some (vR sh.1), some (vI _), some (vI _)]) (And.intro rfl (And.intro rfl (And.intro rfl (trivial)))) ?_
                    exact ZP.mono (Nat.le_of_ble_eq_true rfl) (Nat.le_of_ble_eq_true rfl) (ih90 _ _   (by omega) (by rw [tk_map hb3.1 hk3, lsum_app, lsum_one, hs3]; rw [szU_mZ]; exact Int.add_assoc _ _ _) (by omega))
              refine ZP.wk (L' := [some (vR sh.1), some (vI _), some (vI _)]) (And.intro rfl (And.intro rfl (And.intro rfl (trivial)))) ?_
              exact ZP.mono (Nat.le_of_ble_eq_true rfl) (Nat.le_of_ble_eq_true rfl) (loop90 _ _ _   (by omega) (by rw [hs2, tk_end (by omega), T.vsum]; exact (Int.add_zero _).symm) (Nat.lt_succ_self _))
            · refine z_iload_n (pc' := 64) X dX2_unitsByPlaces_63 rfl rfl ?_
              refine z_aload_n (pc' := 65) X dX2_unitsByPlaces_64 rfl rfl ?_
              refine z_get1 (pc' := 68) (kf := 13) X in_X2 rfl (by decide) q238 (Or.inl rfl) hX.stA rfl dX2_unitsByPlaces_65 rfl ?_
              refine z_iload_n (pc' := 69) X dX2_unitsByPlaces_68 rfl rfl ?_
              obtain ⟨q4, e4, hk4⟩ := ELs.at (ps := Ls 2) (k := k2) (by first | assumption | omega)
              have t4 := Tv2 _ _ _ hk4
              rw [Int.toNat_of_nonneg (by omega)] at t4
              have b4 := kc4 (k2) (by omega) (by omega)
              refine z_rget (pc' := 74) X q549 hX (i := 2) (by decide) (j := k2) hk4 (by first | assumption | omega) dX2_unitsByPlaces_69 rfl (by decide) (Nat.le_of_ble_eq_true rfl) (Nat.le_of_ble_eq_true rfl) (Nat.le_of_ble_eq_true rfl) (by show (Ls 2).length ≤ 1000; omega) ?_
              refine z_castS1 (pc' := 77) X (ci := 4) q380 rfl ⟨_, (hX.el2 hk4)⟩ dX2_unitsByPlaces_74 rfl ?_
              refine z_get1 (pc' := 80) (kf := 0) X in_X5 rfl (by decide) q387 (Or.inl rfl) (hX.el2 hk4) rfl dX2_unitsByPlaces_77 rfl ?_
              refine z_iadd (pc' := 81) X dX2_unitsByPlaces_80 rfl ?_
              refine z_istore_n (pc' := 82) X dX2_unitsByPlaces_81 rfl (by decide) rfl ?_
              dsimp only [List.set]
              refine z_iinc (pc' := 85) X dX2_unitsByPlaces_82 rfl (by decide) rfl rfl ?_
              dsimp only [List.set]
              refine z_goto (tgt := 50) X dX2_unitsByPlaces_85 (by decide) ?_
              refine ZP.wk (L' := [some (vR sh.1), some (vI _), some (vI _)]) (And.intro rfl (And.intro rfl (And.intro rfl (trivial)))) ?_
              exact ZP.mono (Nat.le_of_ble_eq_true rfl) (Nat.le_of_ble_eq_true rfl) (ih50 _ _   (by omega) (by rw [tk_map hb2.1 hk4, lsum_app, lsum_one, hs2]; exact Int.add_assoc _ _ _) (by omega))
        refine ZP.wk (L' := [some (vR sh.1), some (vI _), some (vI _)]) (And.intro rfl (And.intro rfl (And.intro rfl (trivial)))) ?_
        exact ZP.mono (Nat.le_of_ble_eq_true rfl) (Nat.le_of_ble_eq_true rfl) (loop50 _ _ _   (by omega) (by rw [hs1, tk_end (by omega), Tb]; exact (Int.add_zero _).symm) (Nat.lt_succ_self _))
      · refine z_iload_n (pc' := 21) X dX2_unitsByPlaces_20 rfl rfl ?_
        refine z_bipush (pc' := 23) X dX2_unitsByPlaces_21 rfl (by decide) ?_
        refine z_aload_n (pc' := 24) X dX2_unitsByPlaces_23 rfl rfl ?_
        refine z_get1 (pc' := 27) (kf := 12) X in_X2 rfl (by decide) q236 (Or.inl rfl) hX.stA rfl dX2_unitsByPlaces_24 rfl ?_
        refine z_iload_n (pc' := 28) X dX2_unitsByPlaces_27 rfl rfl ?_
        obtain ⟨q5, e5, hk5⟩ := ELs.at (ps := Ls 1) (k := k1) (by first | assumption | omega)
        have b5 := T.bale hk hk5
        refine z_rget (pc' := 33) X q549 hX (i := 1) (by decide) (j := k1) hk5 (by first | assumption | omega) dX2_unitsByPlaces_28 rfl (by decide) (Nat.le_of_ble_eq_true rfl) (Nat.le_of_ble_eq_true rfl) (Nat.le_of_ble_eq_true rfl) (by show (Ls 1).length ≤ 1000; omega) ?_
        refine z_castS1 (pc' := 36) X (ci := 7) q567 rfl ⟨_, (hX.el1 hk5)⟩ dX2_unitsByPlaces_33 rfl ?_
        refine z_get1 (pc' := 39) (kf := 1) X in_X9 rfl (by decide) q639 (Or.inl rfl) (hX.el1 hk5) rfl dX2_unitsByPlaces_36 rfl ?_
        refine z_imul (pc' := 40) X dX2_unitsByPlaces_39 rfl ?_
        refine z_iadd (pc' := 41) X dX2_unitsByPlaces_40 rfl ?_
        refine z_istore_n (pc' := 42) X dX2_unitsByPlaces_41 rfl (by decide) rfl ?_
        dsimp only [List.set]
        refine z_iinc (pc' := 45) X dX2_unitsByPlaces_42 rfl (by decide) rfl rfl ?_
        dsimp only [List.set]
        refine z_goto (tgt := 7) X dX2_unitsByPlaces_45 (by decide) ?_
        refine ZP.wk (L' := [some (vR sh.1), some (vI _), some (vI _)]) (And.intro rfl (And.intro rfl (And.intro rfl (trivial)))) ?_
        exact ZP.mono (Nat.le_of_ble_eq_true rfl) (Nat.le_of_ble_eq_true rfl) (ih7 _ _   (by omega) (by rw [tk_map hb1.1 hk5, lsum_app, lsum_one, hs1]; exact Int.add_assoc _ _ _) (by omega))
  refine ZP.wk (L' := [some (vR sh.1), some (vI _), some (vI _)]) (And.intro rfl (And.intro rfl (And.intro rfl (trivial)))) ?_
  exact ZP.mono (Nat.le_of_ble_eq_true rfl) (Nat.le_of_ble_eq_true rfl) (loop7 _ _ _   (by omega) (by rw [z7]; exact (Int.add_zero _).symm) (Nat.lt_succ_self _))
end ZS2

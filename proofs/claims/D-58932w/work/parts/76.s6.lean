/-! A NIGHT: the walk -/
section ZS6
theorem nL1_len {s : Int} {L : ELs} : (nL1 s L).length = L.length := List.length_map _
theorem nL1_at {s : Int} {L : ELs} {k : Int} {q : Nat} {e : El} (hk : L[k.toNat]? = some (q, e)) : (nL1 s L)[k.toNat]? = some (q, dryE s e) := by
  unfold nL1
  rw [List.getElem?_map, hk]
  rfl
theorem map_at {L : ELs} {g : Nat × El → Nat × El} {k : Int} {q : Nat} {e : El} (hk : L[k.toNat]? = some (q, e)) : (L.map g)[k.toNat]? = some (g (q, e)) := by
  rw [List.getElem?_map, hk]
  rfl
theorem Y_X2_night : zYV yX2_night cX2_night 4 none 0 := ⟨⟨q705, q706, q113, q707⟩, by decide +kernel, by decide⟩
set_option maxRecDepth 100000 in
theorem c_X2_night (l : Launch) (g : zG) (h : GH) (sh : Sh) (f : Int → Int) (rc : Nat) (Ls : Nat → ELs) (S : St) (w : rW g.2.2 h sh (f, rc, Ls)) (T : tie f Ls S) (hk : okY S)  : zMet l yX2_night cX2_night 4 none 7 1 24 [vR sh.1] g h (fun v h' => v = none ∧ ∃ f' Ls', rX g.2.2 h (fpS sh (f, rc, Ls)) sh (f', rc, Ls') h' ∧ tie f' Ls' (nightS S) ∧ f' 205 = f 205 + nNew S ∧ f' 202 = f 202 + nLost S) := by
  refine zMet.mk (L0 := [some (vR sh.1), none, none, none]) (by decide) rfl (Nat.le_of_ble_eq_true rfl) rfl (fun C hg hl hnm X => ?_)
  subst hg hl
  have hX := w.start
  obtain ⟨T0, ⟨Tc, Tc2⟩, ⟨Tb, Tb1, Tb2⟩, ⟨Tv, Tv2⟩, ⟨Tm, Tm2⟩, ⟨Tp, Tp1, Tp2⟩, ⟨Tr, Tr1⟩, Ta, Tz⟩ := id T
  obtain ⟨⟨⟨kc1a, kc1b, kc1c, kc1d, kc1e⟩, kc2, kc3, kc4, kc5⟩, kb, kp, kq⟩ := id hk
  obtain ⟨Tl1, Tl4, Tl5⟩ := T.lens
  have z0 := T0 0 (by omega)
  have z1 := T0 1 (by omega)
  have z2 := T0 2 (by omega)
  have z3 := T0 3 (by omega)
  have hst9 : 0 ≤ nStove S ∧ nStove S ≤ 3 := by unfold nStove; split <;> omega
  obtain ⟨hn1, hn2, hn3, hn4, hn5⟩ := nL_facts T hk
  have hN1 := nL1_len (s := nStove S) (L := Ls 1)
  have hN2 := spL_len (L := nL1 (nStove S) (Ls 1))
  refine z_aload_n (pc' := 1) X dX2_night_0 rfl rfl ?_
  refine z_dup (pc' := 2) X rfl dX2_night_1 rfl ?_
  refine z_get1 (pc' := 5) (kf := 0) X in_X2 rfl (by decide) q212 (Or.inl rfl) hX.stA rfl dX2_night_2 rfl ?_
  refine z_iconst (pc' := 6) X dX2_night_5 rfl ?_
  refine z_iadd (pc' := 7) X dX2_night_6 rfl ?_
  refine z_put1 (pc' := 10) (kf := 0) X in_X2 tyX2 tyX2_ok nmX2 rfl (by decide) q212 (Or.inl rfl) rfl rfl rfl (Nat.le_of_ble_eq_true rfl) hX.stA dX2_night_7 rfl (fun h1 e1 => ?_)
  have hX1 : rX (zg C).2.2 h (fpS sh (f, rc, Ls)) sh ((iup f 0 ((f 0 + 1))), rc, Ls) h1 := by rw [e1]; exact hX.num0
  refine z_aload_n (pc' := 11) X dX2_night_10 rfl rfl ?_
  refine z_callV1 (pc' := 14) X Y_X2_heat q708 dX2_night_11 rfl (Nat.le_of_ble_eq_true rfl) (by omega) (by omega) rfl rfl (Nat.le_of_ble_eq_true rfl) rfl ⟨_, hX1.stA⟩ (c_X2_heat _ _ _ sh ((iup f 0 ((f 0 + 1)))) rc (Ls) hX1.1 (by show 0 ≤ f 1 ∧ f 1 ≤ 1000000; omega) (by show 0 ≤ f 2 ∧ f 2 ≤ 3; omega)) (fun v2 h2 p2 => ?_)
  obtain ⟨ev2, p2⟩ := p2
  subst ev2
  dsimp only [zst]
  have hX2 : rX (zg C).2.2 h (fpS sh (f, rc, Ls)) sh ((iup (iup (iup f 0 ((f 0 + 1))) 2 (hst (iup f 0 ((f 0 + 1))))) 1 ((iup f 0 ((f 0 + 1))) 1 - 4 * hst (iup f 0 ((f 0 + 1))))), rc, Ls) h2 := hX1.comp p2
  have hs9 : hst (iup f 0 (f 0 + 1)) = nStove S := by show (if f 1 < 4 * f 2 then 0 else f 2) = _; rw [z1, z2]; rfl
  obtain ⟨fA, hfA⟩ : ∃ x : Int → Int, x = iup (iup (iup f 0 (f 0 + 1)) 2 (nStove S)) 1 (f 1 - 4 * nStove S) := ⟨_, rfl⟩
  have hXfA : rX (zg C).2.2 h (fpS sh (f, rc, Ls)) sh (fA, rc, Ls) h2 := by rw [hfA]; rw [← hs9]; exact hX2
  have a0 : fA 0 = f 0 + 1 := by rw [hfA]; rfl
  have a1 : fA 1 = f 1 - 4 * nStove S := by rw [hfA]; rfl
  have a2 : fA 2 = nStove S := by rw [hfA]; rfl
  have ar : ∀ j, j ≠ 0 → j ≠ 1 → j ≠ 2 → fA j = f j := fun j a b c => by rw [hfA, iup_n b, iup_n c, iup_n a]
  refine z_iconst (pc' := 15) X dX2_night_14 rfl ?_
  refine z_istore_n (pc' := 16) X dX2_night_15 rfl (by decide) rfl ?_
  dsimp only [List.set]
  have loop16 : ∀ (N : Nat) (k : Int) (h16l : GH), (0 ≤ k ∧ k ≤ ((Ls 1).length : Int)) → (rX (zg C).2.2 h (fpS sh (f, rc, Ls)) sh (iup fA 205 (fA 205 + lsum (fun p : Nat × El => dryC (nStove S) p.2) ((Ls 1).take k.toNat)), rc, lup Ls 1 (mpK (nL1 (nStove S) (Ls 1)) (Ls 1) k.toNat)) h16l) → (((Ls 1).length : Int) - k).toNat < N → ZP C 4 (zAt h16l) (0) (0) [some (vR sh.1), some (vI k), none, none] 16 [] := by
    intro N
    induction N with
    | zero => intro k h16l hb1 hX1l hN; exact absurd hN (Nat.not_lt_zero _)
    | succ N ih16 =>
      intro k h16l hb1 hX1l hN
      have hml : (mpK (nL1 (nStove S) (Ls 1)) (Ls 1) k.toNat).length = (Ls 1).length := mpK_len nL1_len
      refine z_iload_n (pc' := 17) X dX2_night_16 rfl rfl ?_
      refine z_aload_n (pc' := 18) X dX2_night_17 rfl rfl ?_
      refine z_get1 (pc' := 21) (kf := 12) X in_X2 rfl (by decide) q236 (Or.inl rfl) hX1l.stA rfl dX2_night_18 rfl ?_
      refine z_rsize (pc' := 26) X q547 hX1l (i := 1) (by decide) dX2_night_21 rfl (by decide) (Nat.le_of_ble_eq_true rfl) (by omega) (by omega) ?_
      rw [lup_s]
      refine z_icmp_ge (tgt := 52) (pc' := 29) X (by first | assumption | omega) (by first | assumption | omega) dX2_night_26 rfl (by decide) (fun c26 => ?_) (fun c26 => ?_)
      · obtain ⟨fB, hfB⟩ : ∃ x : Int → Int, x = iup fA 205 (fA 205 + lsum (fun p : Nat × El => dryC (nStove S) p.2) (Ls 1)) := ⟨_, rfl⟩
        have hXfB : rX (zg C).2.2 h (fpS sh (f, rc, Ls)) sh (fB, rc, (lup Ls 1 ((nL1 (nStove S) (Ls 1))))) h16l := by rw [hfB]; have t := hX1l; rw [mpK_end nL1_len (by omega), lsum_end (by omega)] at t; exact t
        refine z_aload_n (pc' := 53) X dX2_night_52 rfl rfl ?_
        refine z_callV1 (pc' := 56) X Y_X2_spreadMould q720 dX2_night_53 rfl (Nat.le_of_ble_eq_true rfl) (by omega) (by omega) rfl rfl (Nat.le_of_ble_eq_true rfl) rfl ⟨_, hXfB.stA⟩ (c_X2_spreadMould _ _ _ sh (fB) rc ((lup Ls 1 ((nL1 (nStove S) (Ls 1))))) hXfB.1 (by show (nL1 (nStove S) (Ls 1)).length ≤ 24; omega) (by exact hn1)) (fun v3 h3 p3 => ?_)
        obtain ⟨ev3, p3⟩ := p3
        subst ev3
        dsimp only [zst]
        have hX3 : rX (zg C).2.2 h (fpS sh (f, rc, Ls)) sh ((iup fB 205 (fB 205 + spN ((nL1 (nStove S) (Ls 1))) ((nL1 (nStove S) (Ls 1))).length)), rc, (lup Ls 1 ((spL ((nL1 (nStove S) (Ls 1))))))) h3 := by have t := hXfB.comp p3; rw [lup_lup] at t; exact t
        obtain ⟨fC, hfC⟩ : ∃ x : Int → Int, x = iup fB 205 (fB 205 + spN (nL1 (nStove S) (Ls 1)) (nL1 (nStove S) (Ls 1)).length) := ⟨_, rfl⟩
        have hXfC : rX (zg C).2.2 h (fpS sh (f, rc, Ls)) sh (fC, rc, (lup Ls 1 ((spL (nL1 (nStove S) (Ls 1)))))) h3 := by rw [hfC]; exact hX3
        refine z_iconst (pc' := 57) X dX2_night_56 rfl ?_
        refine z_istore_n (pc' := 58) X dX2_night_57 rfl (by decide) rfl ?_
        dsimp only [List.set]
        have loop58 : ∀ (N : Nat) (k2 : Int) (h58l : GH), (0 ≤ k2 ∧ k2 ≤ (((spL (nL1 (nStove S) (Ls 1)))).length : Int)) → (rX (zg C).2.2 h (fpS sh (f, rc, Ls)) sh (iup fC 202 (fC 202 + lsum (fun p : Nat × El => rotZ p.2) ((spL (nL1 (nStove S) (Ls 1))).take k2.toNat)), rc, lup Ls 1 (mpK ((spL (nL1 (nStove S) (Ls 1))).map rotP) (spL (nL1 (nStove S) (Ls 1))) k2.toNat)) h58l) → ((((spL (nL1 (nStove S) (Ls 1)))).length : Int) - k2).toNat < N → ZP C 4 (zAt h58l) (1) (24) [some (vR sh.1), some (vI k2), none, none] 58 [] := by
          intro N
          induction N with
          | zero => intro k2 h58l hb2 hX2l hN; exact absurd hN (Nat.not_lt_zero _)
          | succ N ih58 =>
            intro k2 h58l hb2 hX2l hN
            have hml : (mpK ((spL (nL1 (nStove S) (Ls 1))).map rotP) (spL (nL1 (nStove S) (Ls 1))) k2.toNat).length = (spL (nL1 (nStove S) (Ls 1))).length := mpK_len (List.length_map _)
            refine z_iload_n (pc' := 59) X dX2_night_58 rfl rfl ?_
            refine z_aload_n (pc' := 60) X dX2_night_59 rfl rfl ?_
            refine z_get1 (pc' := 63) (kf := 12) X in_X2 rfl (by decide) q236 (Or.inl rfl) hX2l.stA rfl dX2_night_60 rfl ?_
            refine z_rsize (pc' := 68) X q547 hX2l (i := 1) (by decide) dX2_night_63 rfl (by decide) (Nat.le_of_ble_eq_true rfl) (by omega) (by omega) ?_
            rw [lup_s]
            refine z_icmp_ge (tgt := 129) (pc' := 71) X (by first | assumption | omega) (by first | assumption | omega) dX2_night_68 rfl (by decide) (fun c68 => ?_) (fun c68 => ?_)
            · obtain ⟨fD, hfD⟩ : ∃ x : Int → Int, x = iup fC 202 (fC 202 + lsum (fun p : Nat × El => rotZ p.2) (spL (nL1 (nStove S) (Ls 1)))) := ⟨_, rfl⟩
              have hXfD : rX (zg C).2.2 h (fpS sh (f, rc, Ls)) sh (fD, rc, (lup Ls 1 (((spL (nL1 (nStove S) (Ls 1))).map rotP)))) h58l := by rw [hfD]; have t := hX2l; rw [mpK_end (List.length_map _) (by omega), lsum_end (by omega)] at t; exact t
              refine z_aload_n (pc' := 130) X dX2_night_129 rfl rfl ?_
              refine z_callV1 (pc' := 133) X Y_X2_dropEmptyBales q728 dX2_night_130 rfl (Nat.le_of_ble_eq_true rfl) (by omega) (by omega) rfl rfl (Nat.le_of_ble_eq_true rfl) rfl ⟨_, hXfD.stA⟩ (c_X2_dropEmptyBales _ _ _ sh (fD) rc ((lup Ls 1 (((spL (nL1 (nStove S) (Ls 1))).map rotP)))) hXfD.1 (by show ((spL (nL1 (nStove S) (Ls 1))).map rotP).length ≤ 24; rw [List.length_map]; omega) (by intro p hp; obtain ⟨x, hx, rfl⟩ := List.mem_map.mp hp; have := (rot_ab (hn2 x hx)).2.2.2.1; show rng (rotE x.2).2.1; unfold rng; omega)) (fun v4 h4 p4 => ?_)
              obtain ⟨ev4, p4⟩ := p4
              subst ev4
              dsimp only [zst]
              have hX4 : rX (zg C).2.2 h (fpS sh (f, rc, Ls)) sh (fD, rc, (lup Ls 1 (((((spL (nL1 (nStove S) (Ls 1))).map rotP)).filter nzB)))) h4 := by have t := hXfD.comp p4; rw [lup_lup] at t; exact t
              refine z_iconst (pc' := 134) X dX2_night_133 rfl ?_
              refine z_istore_n (pc' := 135) X dX2_night_134 rfl (by decide) rfl ?_
              dsimp only [List.set]
              have loop135 : ∀ (N : Nat) (k3 : Int) (h135l : GH), (0 ≤ k3 ∧ k3 ≤ ((Ls 4).length : Int)) → (rX (zg C).2.2 h (fpS sh (f, rc, Ls)) sh (fD, rc, lup (lup Ls 1 (nL4 (nStove S) (Ls 1))) 4 (mpK ((Ls 4).map agP) (Ls 4) k3.toNat)) h135l) → (((Ls 4).length : Int) - k3).toNat < N → ZP C 4 (zAt h135l) (1) (24) [some (vR sh.1), some (vI k3), none, none] 135 [] := by
                intro N
                induction N with
                | zero => intro k3 h135l hb3 hX3l hN; exact absurd hN (Nat.not_lt_zero _)
                | succ N ih135 =>
                  intro k3 h135l hb3 hX3l hN
                  have hml : (mpK ((Ls 4).map agP) (Ls 4) k3.toNat).length = (Ls 4).length := mpK_len (List.length_map _)
                  refine z_iload_n (pc' := 136) X dX2_night_135 rfl rfl ?_
                  refine z_aload_n (pc' := 137) X dX2_night_136 rfl rfl ?_
                  refine z_get1 (pc' := 140) (kf := 15) X in_X2 rfl (by decide) q242 (Or.inl rfl) hX3l.stA rfl dX2_night_137 rfl ?_
                  refine z_rsize (pc' := 145) X q547 hX3l (i := 4) (by decide) dX2_night_140 rfl (by decide) (Nat.le_of_ble_eq_true rfl) (by omega) (by omega) ?_
                  rw [lup_s]
                  refine z_icmp_ge (tgt := 176) (pc' := 148) X (by first | assumption | omega) (by first | assumption | omega) dX2_night_145 rfl (by decide) (fun c145 => ?_) (fun c145 => ?_)
                  · refine z_ret1 X dX2_night_176 (by omega) (by omega) ?_
                    refine ⟨rfl, fD, lup (lup Ls 1 (nL4 (nStove S) (Ls 1))) 4 ((Ls 4).map agP), ?_, night_tie T hk ?_ ?_ ?_ ?_ ?_ (fun j j0 j1 j2 j202 j205 => ?_), ?_, ?_⟩
                    · have t := hX3l
                      rw [mpK_end (List.length_map _) (by omega)] at t
                      exact t
                    · rw [hfD, iup_n (by decide), hfC, iup_n (by decide), hfB, iup_n (by decide), a0]
                    · rw [hfD, iup_n (by decide), hfC, iup_n (by decide), hfB, iup_n (by decide), a1]
                    · rw [hfD, iup_n (by decide), hfC, iup_n (by decide), hfB, iup_n (by decide), a2]
                    · rw [hfD, iup_s, hfC, iup_n (by decide), hfB, iup_n (by decide), ar _ (by decide) (by decide) (by decide), hn5]
                    · rw [hfD, iup_n (by decide), hfC, iup_s, hfB, iup_s, ar _ (by decide) (by decide) (by decide), ← hn4, Int.add_assoc]
                    · rw [hfD, iup_n j202, hfC, iup_n j205, hfB, iup_n j205, ar j j0 j1 j2]
                    · rw [hfD, iup_n (by decide), hfC, iup_s, hfB, iup_s, ar _ (by decide) (by decide) (by decide), ← hn4, Int.add_assoc]
                    · rw [hfD, iup_s, hfC, iup_n (by decide), hfB, iup_n (by decide), ar _ (by decide) (by decide) (by decide), hn5]
                  · refine z_aload_n (pc' := 149) X dX2_night_148 rfl rfl ?_
                    refine z_get1 (pc' := 152) (kf := 15) X in_X2 rfl (by decide) q242 (Or.inl rfl) hX3l.stA rfl dX2_night_149 rfl ?_
                    refine z_iload_n (pc' := 153) X dX2_night_152 rfl rfl ?_
                    obtain ⟨q5, e5, hk5⟩ := ELs.at (ps := (mpK ((Ls 4).map agP) (Ls 4) k3.toNat)) (k := k3) (by first | assumption | omega)
                    have hL : (Ls 4)[k3.toNat]? = some (q5, e5) := (mpK_at (List.length_map _) hb3).symm.trans hk5
                    have hT := map_at (g := agP) hL
                    obtain ⟨o1, o2, o3, o4, o5⟩ := T.pile hk hL
                    refine z_rget (pc' := 158) X q549 hX3l (i := 4) (by decide) (j := k3) hk5 (by first | assumption | omega) dX2_night_153 rfl (by decide) (Nat.le_of_ble_eq_true rfl) (by omega) (by omega) (by show ((mpK ((Ls 4).map agP) (Ls 4) k3.toNat)).length ≤ 1000; omega) ?_
                    refine z_castS1 (pc' := 161) X (ci := 8) q568 rfl ⟨_, (hX3l.el4 hk5)⟩ dX2_night_158 rfl ?_
                    refine z_dup (pc' := 162) X rfl dX2_night_161 rfl ?_
                    refine z_get1 (pc' := 165) (kf := 4) X in_X10 rfl (by decide) q692 (Or.inl rfl) (hX3l.el4 hk5) rfl dX2_night_162 rfl ?_
                    refine z_iconst (pc' := 166) X dX2_night_165 rfl ?_
                    refine z_iadd (pc' := 167) X dX2_night_166 rfl ?_
                    refine z_put1 (pc' := 170) (kf := 4) X in_X10 tyX10 tyX10_ok nmX10 rfl (by decide) q692 (Or.inl rfl) rfl rfl rfl (Nat.le_of_ble_eq_true rfl) (hX3l.el4 hk5) dX2_night_167 rfl (fun h6 e6 => ?_)
                    have hX6 : rX (zg C).2.2 h (fpS sh (f, rc, Ls)) sh ((fD), rc, (lup (lup Ls 1 ((nL4 (nStove S) (Ls 1)))) 4 (((mpK ((Ls 4).map agP) (Ls 4) k3.toNat)).set (k3).toNat (q5, (e5.1, e5.2.1, e5.2.2.1, e5.2.2.2.1, (e5.2.2.2.2 + 1)))))) h6 := by rw [e6]; have t := hX3l.elem (i := 4) (e' := (e5.1, e5.2.1, e5.2.2.1, e5.2.2.2.1, (e5.2.2.2.2 + 1))) (by decide) hk5 rfl; rw [lup_lup] at t; exact t
                    have hk6 : (((mpK ((Ls 4).map agP) (Ls 4) k3.toNat)).set (k3).toNat (q5, (e5.1, e5.2.1, e5.2.2.1, e5.2.2.2.1, (e5.2.2.2.2 + 1))))[(k3).toNat]? = some (q5, (e5.1, e5.2.1, e5.2.2.1, e5.2.2.2.1, (e5.2.2.2.2 + 1))) := set_at hk5
                    refine z_iinc (pc' := 173) X dX2_night_170 rfl (by decide) rfl rfl ?_
                    dsimp only [List.set]
                    refine z_goto (tgt := 135) X dX2_night_173 (by decide) ?_
                    refine ZP.wk (L' := [some (vR sh.1), some (vI _), none, none]) (And.intro rfl (And.intro rfl (trivial))) ?_
                    exact ZP.mono (by omega) (by omega) (ih135 _  h6 (by omega) (by rw [← mpK_set (List.length_map _) hb3.1 hT]; exact hX6) (by omega))
              refine ZP.wk (L' := [some (vR sh.1), some (vI _), none, none]) (And.intro rfl (And.intro rfl (trivial))) ?_
              exact ZP.mono (by omega) (by omega) (loop135 _ _  h4 (by omega) (by rw [show lup (lup Ls 1 (nL4 (nStove S) (Ls 1))) 4 (mpK ((Ls 4).map agP) (Ls 4) (Int.toNat 0)) = lup Ls 1 (nL4 (nStove S) (Ls 1)) from lup_self]; exact hX4) (Nat.lt_succ_self _))
            · refine z_aload_n (pc' := 72) X dX2_night_71 rfl rfl ?_
              refine z_get1 (pc' := 75) (kf := 12) X in_X2 rfl (by decide) q236 (Or.inl rfl) hX2l.stA rfl dX2_night_72 rfl ?_
              refine z_iload_n (pc' := 76) X dX2_night_75 rfl rfl ?_
              obtain ⟨q7, e7, hk7⟩ := ELs.at (ps := (mpK ((spL (nL1 (nStove S) (Ls 1))).map rotP) (spL (nL1 (nStove S) (Ls 1))) k2.toNat)) (k := k2) (by first | assumption | omega)
              have hL : (spL (nL1 (nStove S) (Ls 1)))[k2.toNat]? = some (q7, e7) := (mpK_at (List.length_map _) hb2).symm.trans hk7
              have hT := map_at (g := rotP) hL
              obtain ⟨o1, o2, o3, o4, o5⟩ : okE e7 := hn2 _ (List.mem_of_getElem? hL)
              refine z_rget (pc' := 81) X q549 hX2l (i := 1) (by decide) (j := k2) hk7 (by first | assumption | omega) dX2_night_76 rfl (by decide) (Nat.le_of_ble_eq_true rfl) (by omega) (by omega) (by show ((mpK ((spL (nL1 (nStove S) (Ls 1))).map rotP) (spL (nL1 (nStove S) (Ls 1))) k2.toNat)).length ≤ 1000; omega) ?_
              refine z_castS1 (pc' := 84) X (ci := 7) q567 rfl ⟨_, (hX2l.el1 hk7)⟩ dX2_night_81 rfl ?_
              refine z_astore_n (pc' := 85) X dX2_night_84 rfl (by decide) rfl ?_
              dsimp only [List.set]
              refine z_aload_n (pc' := 86) X dX2_night_85 rfl rfl ?_
              refine z_get1 (pc' := 89) (kf := 4) X in_X9 rfl (by decide) q648 (Or.inl rfl) (hX2l.el1 hk7) rfl dX2_night_86 rfl ?_
              refine z_if_eq (tgt := 123) (pc' := 92) X (by first | assumption | omega) dX2_night_89 rfl (by decide) (fun c89 => ?_) (fun c89 => ?_)
              · refine z_iinc (pc' := 126) X dX2_night_123 rfl (by decide) rfl rfl ?_
                dsimp only [List.set]
                refine z_goto (tgt := 58) X dX2_night_126 (by decide) ?_
                refine ZP.wk (L' := [some (vR sh.1), some (vI _), none, none]) (And.intro rfl (And.intro rfl (trivial))) ?_
                exact ZP.mono (by omega) (by omega) (ih58 _  h58l (by omega) (by rw [← mpK_same (List.length_map _) hb2.1 (hT.trans (by show some (_, rotE _) = _; rw [show rotE _ = _ from if_pos c89])) hL, lsum_tk hb2.1 hL]; show rX _ _ _ _ (iup fC 202 (fC 202 + (_ + (if _ = (0 : Int) then (0 : Int) else _))), _, _) _; rw [if_pos c89, Int.add_zero]; exact hX2l) (by omega))
              · refine z_aload_n (pc' := 93) X dX2_night_92 rfl rfl ?_
                refine z_get1 (pc' := 96) (kf := 1) X in_X9 rfl (by decide) q639 (Or.inl rfl) (hX2l.el1 hk7) rfl dX2_night_93 rfl ?_
                refine z_bipush (pc' := 98) X dX2_night_96 rfl (by decide) ?_
                refine z_iadd (pc' := 99) X dX2_night_98 rfl ?_
                refine z_bipush (pc' := 101) X dX2_night_99 rfl (by decide) ?_
                refine z_idivp (pc' := 102) X (by first | assumption | omega) (by decide) dX2_night_101 rfl ?_
                refine z_istore_n (pc' := 103) X dX2_night_102 rfl (by decide) rfl ?_
                dsimp only [List.set]
                refine z_aload_n (pc' := 104) X dX2_night_103 rfl rfl ?_
                refine z_dup (pc' := 105) X rfl dX2_night_104 rfl ?_
                refine z_get1 (pc' := 108) (kf := 1) X in_X9 rfl (by decide) q639 (Or.inl rfl) (hX2l.el1 hk7) rfl dX2_night_105 rfl ?_
                refine z_iload_n (pc' := 109) X dX2_night_108 rfl rfl ?_
                refine z_isub (pc' := 110) X dX2_night_109 rfl ?_
                refine z_put1 (pc' := 113) (kf := 1) X in_X9 tyX9 tyX9_ok nmX9 rfl (by decide) q639 (Or.inl rfl) rfl rfl rfl (Nat.le_of_ble_eq_true rfl) (hX2l.el1 hk7) dX2_night_110 rfl (fun h8 e8 => ?_)
                have hX8 : rX (zg C).2.2 h (fpS sh (f, rc, Ls)) sh ((iup fC 202 (fC 202 + lsum (fun p : Nat × El => rotZ p.2) ((spL (nL1 (nStove S) (Ls 1))).take k2.toNat))), rc, (lup Ls 1 (((mpK ((spL (nL1 (nStove S) (Ls 1))).map rotP) (spL (nL1 (nStove S) (Ls 1))) k2.toNat)).set (k2).toNat (q7, (e7.1, (e7.2.1 - ((e7.2.1 + 9) / 10)), e7.2.2.1, e7.2.2.2.1, e7.2.2.2.2))))) h8 := by rw [e8]; have t := hX2l.elem (i := 1) (e' := (e7.1, (e7.2.1 - ((e7.2.1 + 9) / 10)), e7.2.2.1, e7.2.2.2.1, e7.2.2.2.2)) (by decide) hk7 rfl; rw [lup_lup] at t; exact t
                have hk8 : (((mpK ((spL (nL1 (nStove S) (Ls 1))).map rotP) (spL (nL1 (nStove S) (Ls 1))) k2.toNat)).set (k2).toNat (q7, (e7.1, (e7.2.1 - ((e7.2.1 + 9) / 10)), e7.2.2.1, e7.2.2.2.1, e7.2.2.2.2)))[(k2).toNat]? = some (q7, (e7.1, (e7.2.1 - ((e7.2.1 + 9) / 10)), e7.2.2.1, e7.2.2.2.1, e7.2.2.2.2)) := set_at hk7
                refine z_aload_n (pc' := 114) X dX2_night_113 rfl rfl ?_
                refine z_dup (pc' := 115) X rfl dX2_night_114 rfl ?_
                refine z_get1 (pc' := 118) (kf := 6) X in_X2 rfl (by decide) q224 (Or.inl rfl) hX8.stA rfl dX2_night_115 rfl ?_
                refine z_iload_n (pc' := 119) X dX2_night_118 rfl rfl ?_
                refine z_iadd (pc' := 120) X dX2_night_119 rfl ?_
                refine z_put1 (pc' := 123) (kf := 6) X in_X2 tyX2 tyX2_ok nmX2 rfl (by decide) q224 (Or.inl rfl) rfl rfl rfl (Nat.le_of_ble_eq_true rfl) hX8.stA dX2_night_120 rfl (fun h9 e9 => ?_)
                have hX9 : rX (zg C).2.2 h (fpS sh (f, rc, Ls)) sh ((iup (iup fC 202 (fC 202 + lsum (fun p : Nat × El => rotZ p.2) ((spL (nL1 (nStove S) (Ls 1))).take k2.toNat))) 202 (((iup fC 202 (fC 202 + lsum (fun p : Nat × El => rotZ p.2) ((spL (nL1 (nStove S) (Ls 1))).take k2.toNat))) 202 + ((e7.2.1 + 9) / 10)))), rc, (lup Ls 1 (((mpK ((spL (nL1 (nStove S) (Ls 1))).map rotP) (spL (nL1 (nStove S) (Ls 1))) k2.toNat)).set (k2).toNat (q7, (e7.1, (e7.2.1 - ((e7.2.1 + 9) / 10)), e7.2.2.1, e7.2.2.2.1, e7.2.2.2.2))))) h9 := by rw [e9]; exact hX8.num6
                refine z_iinc (pc' := 126) X dX2_night_123 rfl (by decide) rfl rfl ?_
                dsimp only [List.set]
                refine z_goto (tgt := 58) X dX2_night_126 (by decide) ?_
                refine ZP.wk (L' := [some (vR sh.1), some (vI _), none, none]) (And.intro rfl (And.intro rfl (trivial))) ?_
                exact ZP.mono (by omega) (by omega) (ih58 _  h9 (by omega) (by have t := hX9; rw [iup_up] at t; rw [← mpK_set (List.length_map _) hb2.1 (hT.trans (by show some (_, rotE _) = _; rw [show rotE _ = _ from if_neg c89])), lsum_tk hb2.1 hL]; show rX _ _ _ _ (iup fC 202 (fC 202 + (_ + (if _ = (0 : Int) then (0 : Int) else _))), _, _) _; rw [if_neg c89, ← Int.add_assoc]; exact t) (by omega))
        refine ZP.wk (L' := [some (vR sh.1), some (vI _), none, none]) (And.intro rfl (And.intro rfl (trivial))) ?_
        exact ZP.mono (by omega) (by omega) (loop58 _ _  h3 (by omega) (by rw [show iup fC 202 (fC 202 + lsum (fun p : Nat × El => rotZ p.2) ((spL (nL1 (nStove S) (Ls 1))).take (Int.toNat 0))) = fC from iup_0]; exact hXfC) (Nat.lt_succ_self _))
      · refine z_aload_n (pc' := 30) X dX2_night_29 rfl rfl ?_
        refine z_aload_n (pc' := 31) X dX2_night_30 rfl rfl ?_
        refine z_get1 (pc' := 34) (kf := 12) X in_X2 rfl (by decide) q236 (Or.inl rfl) hX1l.stA rfl dX2_night_31 rfl ?_
        refine z_iload_n (pc' := 35) X dX2_night_34 rfl rfl ?_
        obtain ⟨q10, e10, hk10⟩ := ELs.at (ps := (mpK (nL1 (nStove S) (Ls 1)) (Ls 1) k.toNat)) (k := k) (by first | assumption | omega)
        have hL : (Ls 1)[k.toNat]? = some (q10, e10) := (mpK_at nL1_len hb1).symm.trans hk10
        have hT := nL1_at (s := nStove S) hL
        have hY : dryY e10 := dryY_of T hk _ (List.mem_of_getElem? hL)
        refine z_rget (pc' := 40) X q549 hX1l (i := 1) (by decide) (j := k) hk10 (by first | assumption | omega) dX2_night_35 rfl (by decide) (Nat.le_of_ble_eq_true rfl) (by omega) (by omega) (by show ((mpK (nL1 (nStove S) (Ls 1)) (Ls 1) k.toNat)).length ≤ 1000; omega) ?_
        refine z_castS1 (pc' := 43) X (ci := 7) q567 rfl ⟨_, (hX1l.el1 hk10)⟩ dX2_night_40 rfl ?_
        refine z_callV1 (pc' := 46) X Y_X2_dry q712 dX2_night_43 rfl (Nat.le_of_ble_eq_true rfl) (by omega) (by omega) rfl rfl (Nat.le_of_ble_eq_true rfl) rfl ⟨_, hX1l.stA⟩ (c_X2_dry _ _ _ sh ((iup fA 205 (fA 205 + lsum (fun p : Nat × El => dryC (nStove S) p.2) ((Ls 1).take k.toNat)))) rc ((lup Ls 1 ((mpK (nL1 (nStove S) (Ls 1)) (Ls 1) k.toNat)))) hX1l.1 ((k).toNat) q10 e10 hk10 hY.1 hY.2 (by show 0 ≤ fA 2 ∧ fA 2 ≤ 3; omega)) (fun v11 h11 p11 => ?_)
        obtain ⟨ev11, p11⟩ := p11
        subst ev11
        dsimp only [zst]
        have hX11 : rX (zg C).2.2 h (fpS sh (f, rc, Ls)) sh ((iup fA 205 (fA 205 + lsum (fun p : Nat × El => dryC (nStove S) p.2) ((Ls 1).take k.toNat) + dryC (nStove S) e10)), rc, (lup Ls 1 (((mpK (nL1 (nStove S) (Ls 1)) (Ls 1) k.toNat)).set (k).toNat (q10, dryE (nStove S) e10)))) h11 := by have t := hX1l.comp p11; rw [lup_lup, show (iup fA 205 (fA 205 + lsum (fun p : Nat × El => dryC (nStove S) p.2) ((Ls 1).take k.toNat))) 2 = nStove S from a2, iup_up] at t; exact t
        refine z_iinc (pc' := 49) X dX2_night_46 rfl (by decide) rfl rfl ?_
        dsimp only [List.set]
        refine z_goto (tgt := 16) X dX2_night_49 (by decide) ?_
        refine ZP.wk (L' := [some (vR sh.1), some (vI _), none, none]) (And.intro rfl (And.intro rfl (trivial))) ?_
        exact ZP.mono (by omega) (by omega) (ih16 _  h11 (by omega) (by rw [← mpK_set nL1_len hb1.1 hT, lsum_tk hb1.1 hL, ← Int.add_assoc]; exact hX11) (by omega))
  refine ZP.wk (L' := [some (vR sh.1), some (vI _), none, none]) (And.intro rfl (And.intro rfl (trivial))) ?_
  exact ZP.mono (by omega) (by omega) (loop16 _ _  h2 (by omega) (by rw [show iup fA 205 (fA 205 + lsum (fun p : Nat × El => dryC (nStove S) p.2) ((Ls 1).take (Int.toNat 0))) = fA from iup_0, show lup Ls 1 (mpK (nL1 (nStove S) (Ls 1)) (Ls 1) (Int.toNat 0)) = Ls from lup_self]; exact hXfA) (Nat.lt_succ_self _))
end ZS6

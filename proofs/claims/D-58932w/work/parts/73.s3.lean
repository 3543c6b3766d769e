/-! THE STATE's bales: dried, moulded, spread, dropped, taken; the stove -/
section ZS3
def okE (e : El) : Prop := (0 ≤ e.1 ∧ e.1 ≤ 3) ∧ (0 ≤ e.2.1 ∧ e.2.1 ≤ 300) ∧ (0 ≤ e.2.2.1 ∧ e.2.2.1 ≤ 99) ∧ (0 ≤ e.2.2.2.1 ∧ e.2.2.2.1 ≤ 5) ∧ (e.2.2.2.2 = 0 ∨ e.2.2.2.2 = 1)
def dryD (st : Int) (e : El) : Int := if e.2.2.1 - 1 - st < 0 then 0 else e.2.2.1 - 1 - st
def dryW (st : Int) (e : El) : Int := if 30 ≤ dryD st e then e.2.2.2.1 + 1 else 0
def dryE (st : Int) (e : El) : El := if e.2.2.2.2 = 0 then (e.1, e.2.1, dryD st e, dryW st e, if dryW st e = 5 then 1 else 0) else (e.1, e.2.1, dryD st e, e.2.2.2.1, e.2.2.2.2)
def dryC (st : Int) (e : El) : Int := if e.2.2.2.2 = 0 ∧ dryW st e = 5 then 1 else 0
theorem iup_0 {f : Int → Int} {j : Int} : iup f j (f j + 0) = f := by
  funext x
  unfold iup
  split
  · rename_i hx; rw [hx, Int.add_zero]
  · rfl
theorem set_set2 {ps : ELs} {j : Nat} {x y : Nat × El} : (ps.set j x).set j y = ps.set j y := List.set_set ..
theorem Y_X2_becomeMouldy : zYV yX2_becomeMouldy cX2_becomeMouldy 2 none 1 := ⟨⟨q718, qs5, q113, q719⟩, by decide +kernel, by decide⟩
set_option maxRecDepth 100000 in
theorem c_X2_becomeMouldy (l : Launch) (g : zG) (h : GH) (sh : Sh) (f : Int → Int) (rc : Nat) (Ls : Nat → ELs) (w : rW g.2.2 h sh (f, rc, Ls)) (j q : Nat) (e : El) (hq : (Ls 1)[j]? = some (q, e)) : zMet l yX2_becomeMouldy cX2_becomeMouldy 2 none 1 0 0 [vR sh.1, vR q] g h (fun v h' => v = none ∧ rX g.2.2 h (fpS sh (f, rc, Ls)) sh (iup f 205 (f 205 + 1), rc, lup Ls 1 ((Ls 1).set j (q, (e.1, e.2.1, e.2.2.1, e.2.2.2.1, 1)))) h') := by
  refine zMet.mk (L0 := [some (vR sh.1), some (vR q)]) (by decide) rfl (Nat.le_of_ble_eq_true rfl) rfl (fun C hg hl hnm X => ?_)
  subst hg hl
  have hX := w.start
  refine z_aload_n (pc' := 1) X dX2_becomeMouldy_0 rfl rfl ?_
  refine z_iconst (pc' := 2) X dX2_becomeMouldy_1 rfl ?_
  refine z_put1 (pc' := 5) (kf := 4) X in_X9 tyX9 tyX9_ok nmX9 rfl (by decide) q648 (Or.inl rfl) rfl (by first | exact nar_0 | exact nar_1 | exact nar_b (by omega)) (by first | decide | exact fit_b (by omega)) (Nat.le_of_ble_eq_true rfl) (hX.el1 hq) dX2_becomeMouldy_2 rfl (fun h1 e1 => ?_)
  have hX1 : rX (zg C).2.2 h (fpS sh (f, rc, Ls)) sh (f, rc, (lup Ls 1 ((Ls 1).set j (q, (e.1, e.2.1, e.2.2.1, e.2.2.2.1, 1))))) h1 := by rw [e1]; have t := hX.elem (i := 1) (e' := (e.1, e.2.1, e.2.2.1, e.2.2.2.1, 1)) (by decide) hq rfl; exact t
  have hk1 : ((Ls 1).set j (q, (e.1, e.2.1, e.2.2.1, e.2.2.2.1, 1)))[j]? = some (q, (e.1, e.2.1, e.2.2.1, e.2.2.2.1, 1)) := set_at hq
  refine z_aload_n (pc' := 6) X dX2_becomeMouldy_5 rfl rfl ?_
  refine z_dup (pc' := 7) X rfl dX2_becomeMouldy_6 rfl ?_
  refine z_get1 (pc' := 10) (kf := 10) X in_X2 rfl (by decide) q232 (Or.inl rfl) hX1.stA rfl dX2_becomeMouldy_7 rfl ?_
  refine z_iconst (pc' := 11) X dX2_becomeMouldy_10 rfl ?_
  refine z_iadd (pc' := 12) X dX2_becomeMouldy_11 rfl ?_
  refine z_put1 (pc' := 15) (kf := 10) X in_X2 tyX2 tyX2_ok nmX2 rfl (by decide) q232 (Or.inl rfl) rfl rfl rfl (Nat.le_of_ble_eq_true rfl) hX1.stA dX2_becomeMouldy_12 rfl (fun h2 e2 => ?_)
  have hX2 : rX (zg C).2.2 h (fpS sh (f, rc, Ls)) sh ((iup f 205 ((f 205 + 1))), rc, (lup Ls 1 ((Ls 1).set j (q, (e.1, e.2.1, e.2.2.1, e.2.2.2.1, 1))))) h2 := by rw [e2]; exact hX1.num10
  refine z_ret1 X dX2_becomeMouldy_15 (Nat.le_of_ble_eq_true rfl) (Nat.le_of_ble_eq_true rfl) ?_
  exact ⟨rfl, hX2⟩
theorem Y_X2_dry : zYV yX2_dry cX2_dry 3 none 1 := ⟨⟨q714, qs4, q113, q715⟩, by decide +kernel, by decide⟩
set_option maxRecDepth 100000 in
theorem c_X2_dry (l : Launch) (g : zG) (h : GH) (sh : Sh) (f : Int → Int) (rc : Nat) (Ls : Nat → ELs) (w : rW g.2.2 h sh (f, rc, Ls)) (j q : Nat) (e : El) (hq : (Ls 1)[j]? = some (q, e)) (hE : okE e) (h4 : e.2.2.2.2 = 0 → e.2.2.2.1 ≤ 4) (hs : 0 ≤ f 2 ∧ f 2 ≤ 3) : zMet l yX2_dry cX2_dry 3 none 3 0 0 [vR sh.1, vR q] g h (fun v h' => v = none ∧ rX g.2.2 h (fpS sh (f, rc, Ls)) sh (iup f 205 (f 205 + dryC (f 2) e), rc, lup Ls 1 ((Ls 1).set j (q, dryE (f 2) e))) h') := by
  refine zMet.mk (L0 := [some (vR sh.1), some (vR q), none]) (by decide) rfl (Nat.le_of_ble_eq_true rfl) rfl (fun C hg hl hnm X => ?_)
  subst hg hl
  have hX := w.start
  obtain ⟨hE1, hE2, hE3, hE4, hE5⟩ := id hE
  refine z_aload_n (pc' := 1) X dX2_dry_0 rfl rfl ?_
  refine z_get1 (pc' := 4) (kf := 2) X in_X9 rfl (by decide) q642 (Or.inl rfl) (hX.el1 hq) rfl dX2_dry_1 rfl ?_
  refine z_iconst (pc' := 5) X dX2_dry_4 rfl ?_
  refine z_isub (pc' := 6) X dX2_dry_5 rfl ?_
  refine z_aload_n (pc' := 7) X dX2_dry_6 rfl rfl ?_
  refine z_get1 (pc' := 10) (kf := 3) X in_X2 rfl (by decide) q218 (Or.inl rfl) hX.stA rfl dX2_dry_7 rfl ?_
  refine z_isub (pc' := 11) X dX2_dry_10 rfl ?_
  refine z_istore_n (pc' := 12) X dX2_dry_11 rfl (by decide) rfl ?_
  dsimp only [List.set]
  refine z_aload_n (pc' := 13) X dX2_dry_12 rfl rfl ?_
  refine z_iload_n (pc' := 14) X dX2_dry_13 rfl rfl ?_
  refine z_if_ge (tgt := 21) (pc' := 17) X (by first | assumption | omega | (have := h4 (by assumption); omega)) dX2_dry_14 rfl (by decide) (fun c14 => ?_) (fun c14 => ?_)
  · refine z_iload_n (pc' := 22) X dX2_dry_21 rfl rfl ?_
    rw [show (e.2.2.1 - 1 - f 2) = dryD (f 2) e from (if_neg (by omega)).symm]
    have hdd : 0 ≤ dryD (f 2) e ∧ dryD (f 2) e ≤ 99 := by unfold dryD; split <;> omega
    refine z_put1 (pc' := 25) (kf := 2) X in_X9 tyX9 tyX9_ok nmX9 rfl (by decide) q642 (Or.inl rfl) rfl rfl rfl (Nat.le_of_ble_eq_true rfl) (hX.el1 hq) dX2_dry_22 rfl (fun h1 e1 => ?_)
    have hX1 : rX (zg C).2.2 h (fpS sh (f, rc, Ls)) sh (f, rc, (lup Ls 1 ((Ls 1).set j (q, (e.1, e.2.1, (dryD (f 2) e), e.2.2.2.1, e.2.2.2.2))))) h1 := by rw [e1]; have t := hX.elem (i := 1) (e' := (e.1, e.2.1, (dryD (f 2) e), e.2.2.2.1, e.2.2.2.2)) (by decide) hq rfl; exact t
    have hk1 : ((Ls 1).set j (q, (e.1, e.2.1, (dryD (f 2) e), e.2.2.2.1, e.2.2.2.2)))[j]? = some (q, (e.1, e.2.1, (dryD (f 2) e), e.2.2.2.1, e.2.2.2.2)) := set_at hq
    refine z_aload_n (pc' := 26) X dX2_dry_25 rfl rfl ?_
    refine z_get1 (pc' := 29) (kf := 4) X in_X9 rfl (by decide) q648 (Or.inl rfl) (show h1 q = some (zO 7 [vI (e.1), vI (e.2.1), vI ((dryD (f 2) e)), vI (e.2.2.2.1), vI (e.2.2.2.2)]) from hX1.el1 hk1) rfl dX2_dry_26 rfl ?_
    refine z_if_ne (tgt := 68) (pc' := 32) X (by first | assumption | omega | (have := h4 (by assumption); omega)) dX2_dry_29 rfl (by decide) (fun c29 => ?_) (fun c29 => ?_)
    · refine z_ret1 X dX2_dry_68 (Nat.le_of_ble_eq_true rfl) (Nat.le_of_ble_eq_true rfl) ?_
      refine ⟨rfl, ?_⟩
      rw [show dryE (f 2) e = (e.1, e.2.1, dryD (f 2) e, e.2.2.2.1, e.2.2.2.2) from if_neg c29, show dryC (f 2) e = 0 from if_neg (fun hh => c29 hh.1), iup_0]
      exact hX1
    · refine z_aload_n (pc' := 33) X dX2_dry_32 rfl rfl ?_
      refine z_aload_n (pc' := 34) X dX2_dry_33 rfl rfl ?_
      refine z_get1 (pc' := 37) (kf := 2) X in_X9 rfl (by decide) q642 (Or.inl rfl) (show h1 q = some (zO 7 [vI (e.1), vI (e.2.1), vI ((dryD (f 2) e)), vI (e.2.2.2.1), vI (e.2.2.2.2)]) from hX1.el1 hk1) rfl dX2_dry_34 rfl ?_
      refine z_bipush (pc' := 39) X dX2_dry_37 rfl (by decide) ?_
      refine z_icmp_lt (tgt := 51) (pc' := 42) X (by first | assumption | omega | (have := h4 (by assumption); omega)) (by first | assumption | omega | (have := h4 (by assumption); omega)) dX2_dry_39 rfl (by decide) (fun c39 => ?_) (fun c39 => ?_)
      · refine z_iconst (pc' := 52) X dX2_dry_51 rfl ?_
        rw [show (0 : Int) = dryW (f 2) e from (if_neg (Int.not_le.mpr c39)).symm]
        have hww : 0 ≤ dryW (f 2) e ∧ dryW (f 2) e ≤ 5 := by unfold dryW; split <;> omega
        refine z_put1 (pc' := 55) (kf := 3) X in_X9 tyX9 tyX9_ok nmX9 rfl (by decide) q645 (Or.inl rfl) rfl rfl rfl (Nat.le_of_ble_eq_true rfl) (show h1 q = some (zO 7 [vI (e.1), vI (e.2.1), vI ((dryD (f 2) e)), vI (e.2.2.2.1), vI (e.2.2.2.2)]) from hX1.el1 hk1) dX2_dry_52 rfl (fun h2 e2 => ?_)
        have hX2 : rX (zg C).2.2 h (fpS sh (f, rc, Ls)) sh (f, rc, (lup Ls 1 ((Ls 1).set j (q, (e.1, e.2.1, (dryD (f 2) e), (dryW (f 2) e), e.2.2.2.2))))) h2 := by rw [e2]; have t := hX1.elem (i := 1) (e' := (e.1, e.2.1, (dryD (f 2) e), (dryW (f 2) e), e.2.2.2.2)) (by decide) hk1 rfl; have t2 : rX (zg C).2.2 h (fpS sh (f, rc, Ls)) sh (f, rc, lup (lup Ls 1 ((Ls 1).set j (q, (e.1, e.2.1, (dryD (f 2) e), e.2.2.2.1, e.2.2.2.2)))) 1 (((Ls 1).set j (q, (e.1, e.2.1, (dryD (f 2) e), e.2.2.2.1, e.2.2.2.2))).set j (q, (e.1, e.2.1, (dryD (f 2) e), (dryW (f 2) e), e.2.2.2.2)))) _ := t; rw [lup_lup, set_set2] at t2; exact t2
        have hk2 : ((Ls 1).set j (q, (e.1, e.2.1, (dryD (f 2) e), (dryW (f 2) e), e.2.2.2.2)))[j]? = some (q, (e.1, e.2.1, (dryD (f 2) e), (dryW (f 2) e), e.2.2.2.2)) := set_at hq
        refine z_aload_n (pc' := 56) X dX2_dry_55 rfl rfl ?_
        refine z_get1 (pc' := 59) (kf := 3) X in_X9 rfl (by decide) q645 (Or.inl rfl) (show h2 q = some (zO 7 [vI (e.1), vI (e.2.1), vI ((dryD (f 2) e)), vI ((dryW (f 2) e)), vI (e.2.2.2.2)]) from hX2.el1 hk2) rfl dX2_dry_56 rfl ?_
        refine z_iconst (pc' := 60) X dX2_dry_59 rfl ?_
        refine z_icmp_ne (tgt := 68) (pc' := 63) X (by first | assumption | omega | (have := h4 (by assumption); omega)) (by first | assumption | omega | (have := h4 (by assumption); omega)) dX2_dry_60 rfl (by decide) (fun c60 => ?_) (fun c60 => ?_)
        · refine z_ret1 X dX2_dry_68 (Nat.le_of_ble_eq_true rfl) (Nat.le_of_ble_eq_true rfl) ?_
          refine ⟨rfl, ?_⟩
          rw [show dryE (f 2) e = (e.1, e.2.1, dryD (f 2) e, dryW (f 2) e, e.2.2.2.2) from (if_pos c29).trans (by rw [if_neg c60, c29]), show dryC (f 2) e = 0 from if_neg (fun hh => c60 hh.2), iup_0]
          exact hX2
        · refine z_aload_n (pc' := 64) X dX2_dry_63 rfl rfl ?_
          refine z_aload_n (pc' := 65) X dX2_dry_64 rfl rfl ?_
          refine z_callV1 (pc' := 68) X Y_X2_becomeMouldy q716 dX2_dry_65 rfl (Nat.le_of_ble_eq_true rfl) (Nat.le_of_ble_eq_true rfl) (Nat.le_of_ble_eq_true rfl) rfl rfl (Nat.le_of_ble_eq_true rfl) rfl ⟨_, hX2.stA⟩ (c_X2_becomeMouldy _ _ _ sh (f) rc ((lup Ls 1 ((Ls 1).set j (q, (e.1, e.2.1, (dryD (f 2) e), (dryW (f 2) e), e.2.2.2.2))))) hX2.1 (j) q (e.1, e.2.1, (dryD (f 2) e), (dryW (f 2) e), e.2.2.2.2) hk2) (fun v3 h3 p3 => ?_)
          obtain ⟨ev3, p3⟩ := p3
          subst ev3
          dsimp only [zst]
          have hX3 : rX (zg C).2.2 h (fpS sh (f, rc, Ls)) sh ((iup (f) 205 ((f) 205 + 1)), rc, (lup Ls 1 ((Ls 1).set j (q, (e.1, e.2.1, (dryD (f 2) e), (dryW (f 2) e), 1))))) h3 := by have t := hX2.comp p3; have t2 : rX (zg C).2.2 h (fpS sh (f, rc, Ls)) sh ((iup (f) 205 ((f) 205 + 1)), rc, lup (lup Ls 1 ((Ls 1).set j (q, (e.1, e.2.1, (dryD (f 2) e), (dryW (f 2) e), e.2.2.2.2)))) 1 (((Ls 1).set j (q, (e.1, e.2.1, (dryD (f 2) e), (dryW (f 2) e), e.2.2.2.2))).set j (q, (e.1, e.2.1, (dryD (f 2) e), (dryW (f 2) e), 1)))) _ := t; rw [lup_lup, set_set2] at t2; exact t2
          refine z_ret1 X dX2_dry_68 (Nat.le_of_ble_eq_true rfl) (Nat.le_of_ble_eq_true rfl) ?_
          refine ⟨rfl, ?_⟩
          rw [show dryE (f 2) e = (e.1, e.2.1, dryD (f 2) e, dryW (f 2) e, 1) from (if_pos c29).trans (by rw [if_pos c60]), show dryC (f 2) e = 1 from if_pos ⟨c29, c60⟩]
          exact hX3
      · refine z_aload_n (pc' := 43) X dX2_dry_42 rfl rfl ?_
        refine z_get1 (pc' := 46) (kf := 3) X in_X9 rfl (by decide) q645 (Or.inl rfl) (show h1 q = some (zO 7 [vI (e.1), vI (e.2.1), vI ((dryD (f 2) e)), vI (e.2.2.2.1), vI (e.2.2.2.2)]) from hX1.el1 hk1) rfl dX2_dry_43 rfl ?_
        refine z_iconst (pc' := 47) X dX2_dry_46 rfl ?_
        refine z_iadd (pc' := 48) X dX2_dry_47 rfl ?_
        refine z_goto (tgt := 52) X dX2_dry_48 (by decide) ?_
        rw [show (e.2.2.2.1 + 1) = dryW (f 2) e from (if_pos c39).symm]
        have hww : 0 ≤ dryW (f 2) e ∧ dryW (f 2) e ≤ 5 := by unfold dryW; split <;> omega
        refine z_put1 (pc' := 55) (kf := 3) X in_X9 tyX9 tyX9_ok nmX9 rfl (by decide) q645 (Or.inl rfl) rfl rfl rfl (Nat.le_of_ble_eq_true rfl) (show h1 q = some (zO 7 [vI (e.1), vI (e.2.1), vI ((dryD (f 2) e)), vI (e.2.2.2.1), vI (e.2.2.2.2)]) from hX1.el1 hk1) dX2_dry_52 rfl (fun h4 e4 => ?_)
        have hX4 : rX (zg C).2.2 h (fpS sh (f, rc, Ls)) sh (f, rc, (lup Ls 1 ((Ls 1).set j (q, (e.1, e.2.1, (dryD (f 2) e), (dryW (f 2) e), e.2.2.2.2))))) h4 := by rw [e4]; have t := hX1.elem (i := 1) (e' := (e.1, e.2.1, (dryD (f 2) e), (dryW (f 2) e), e.2.2.2.2)) (by decide) hk1 rfl; have t2 : rX (zg C).2.2 h (fpS sh (f, rc, Ls)) sh (f, rc, lup (lup Ls 1 ((Ls 1).set j (q, (e.1, e.2.1, (dryD (f 2) e), e.2.2.2.1, e.2.2.2.2)))) 1 (((Ls 1).set j (q, (e.1, e.2.1, (dryD (f 2) e), e.2.2.2.1, e.2.2.2.2))).set j (q, (e.1, e.2.1, (dryD (f 2) e), (dryW (f 2) e), e.2.2.2.2)))) _ := t; rw [lup_lup, set_set2] at t2; exact t2
        have hk4 : ((Ls 1).set j (q, (e.1, e.2.1, (dryD (f 2) e), (dryW (f 2) e), e.2.2.2.2)))[j]? = some (q, (e.1, e.2.1, (dryD (f 2) e), (dryW (f 2) e), e.2.2.2.2)) := set_at hq
        refine z_aload_n (pc' := 56) X dX2_dry_55 rfl rfl ?_
        refine z_get1 (pc' := 59) (kf := 3) X in_X9 rfl (by decide) q645 (Or.inl rfl) (show h4 q = some (zO 7 [vI (e.1), vI (e.2.1), vI ((dryD (f 2) e)), vI ((dryW (f 2) e)), vI (e.2.2.2.2)]) from hX4.el1 hk4) rfl dX2_dry_56 rfl ?_
        refine z_iconst (pc' := 60) X dX2_dry_59 rfl ?_
        refine z_icmp_ne (tgt := 68) (pc' := 63) X (by first | assumption | omega | (have := h4 (by assumption); omega)) (by first | assumption | omega | (have := h4 (by assumption); omega)) dX2_dry_60 rfl (by decide) (fun c60 => ?_) (fun c60 => ?_)
        · refine z_ret1 X dX2_dry_68 (Nat.le_of_ble_eq_true rfl) (Nat.le_of_ble_eq_true rfl) ?_
          refine ⟨rfl, ?_⟩
          rw [show dryE (f 2) e = (e.1, e.2.1, dryD (f 2) e, dryW (f 2) e, e.2.2.2.2) from (if_pos c29).trans (by rw [if_neg c60, c29]), show dryC (f 2) e = 0 from if_neg (fun hh => c60 hh.2), iup_0]
          exact hX4
        · refine z_aload_n (pc' := 64) X dX2_dry_63 rfl rfl ?_
          refine z_aload_n (pc' := 65) X dX2_dry_64 rfl rfl ?_
          refine z_callV1 (pc' := 68) X Y_X2_becomeMouldy q716 dX2_dry_65 rfl (Nat.le_of_ble_eq_true rfl) (Nat.le_of_ble_eq_true rfl) (Nat.le_of_ble_eq_true rfl) rfl rfl (Nat.le_of_ble_eq_true rfl) rfl ⟨_, hX4.stA⟩ (c_X2_becomeMouldy _ _ _ sh (f) rc ((lup Ls 1 ((Ls 1).set j (q, (e.1, e.2.1, (dryD (f 2) e), (dryW (f 2) e), e.2.2.2.2))))) hX4.1 (j) q (e.1, e.2.1, (dryD (f 2) e), (dryW (f 2) e), e.2.2.2.2) hk4) (fun v5 h5 p5 => ?_)
          obtain ⟨ev5, p5⟩ := p5
          subst ev5
          dsimp only [zst]
          have hX5 : rX (zg C).2.2 h (fpS sh (f, rc, Ls)) sh ((iup (f) 205 ((f) 205 + 1)), rc, (lup Ls 1 ((Ls 1).set j (q, (e.1, e.2.1, (dryD (f 2) e), (dryW (f 2) e), 1))))) h5 := by have t := hX4.comp p5; have t2 : rX (zg C).2.2 h (fpS sh (f, rc, Ls)) sh ((iup (f) 205 ((f) 205 + 1)), rc, lup (lup Ls 1 ((Ls 1).set j (q, (e.1, e.2.1, (dryD (f 2) e), (dryW (f 2) e), e.2.2.2.2)))) 1 (((Ls 1).set j (q, (e.1, e.2.1, (dryD (f 2) e), (dryW (f 2) e), e.2.2.2.2))).set j (q, (e.1, e.2.1, (dryD (f 2) e), (dryW (f 2) e), 1)))) _ := t; rw [lup_lup, set_set2] at t2; exact t2
          refine z_ret1 X dX2_dry_68 (Nat.le_of_ble_eq_true rfl) (Nat.le_of_ble_eq_true rfl) ?_
          refine ⟨rfl, ?_⟩
          rw [show dryE (f 2) e = (e.1, e.2.1, dryD (f 2) e, dryW (f 2) e, 1) from (if_pos c29).trans (by rw [if_pos c60]), show dryC (f 2) e = 1 from if_pos ⟨c29, c60⟩]
          exact hX5
  · refine z_iconst (pc' := 18) X dX2_dry_17 rfl ?_
    refine z_goto (tgt := 22) X dX2_dry_18 (by decide) ?_
    rw [show (0 : Int) = dryD (f 2) e from (if_pos (by omega)).symm]
    have hdd : 0 ≤ dryD (f 2) e ∧ dryD (f 2) e ≤ 99 := by unfold dryD; split <;> omega
    refine z_put1 (pc' := 25) (kf := 2) X in_X9 tyX9 tyX9_ok nmX9 rfl (by decide) q642 (Or.inl rfl) rfl rfl rfl (Nat.le_of_ble_eq_true rfl) (hX.el1 hq) dX2_dry_22 rfl (fun h6 e6 => ?_)
    have hX6 : rX (zg C).2.2 h (fpS sh (f, rc, Ls)) sh (f, rc, (lup Ls 1 ((Ls 1).set j (q, (e.1, e.2.1, (dryD (f 2) e), e.2.2.2.1, e.2.2.2.2))))) h6 := by rw [e6]; have t := hX.elem (i := 1) (e' := (e.1, e.2.1, (dryD (f 2) e), e.2.2.2.1, e.2.2.2.2)) (by decide) hq rfl; exact t
    have hk6 : ((Ls 1).set j (q, (e.1, e.2.1, (dryD (f 2) e), e.2.2.2.1, e.2.2.2.2)))[j]? = some (q, (e.1, e.2.1, (dryD (f 2) e), e.2.2.2.1, e.2.2.2.2)) := set_at hq
    refine z_aload_n (pc' := 26) X dX2_dry_25 rfl rfl ?_
    refine z_get1 (pc' := 29) (kf := 4) X in_X9 rfl (by decide) q648 (Or.inl rfl) (show h6 q = some (zO 7 [vI (e.1), vI (e.2.1), vI ((dryD (f 2) e)), vI (e.2.2.2.1), vI (e.2.2.2.2)]) from hX6.el1 hk6) rfl dX2_dry_26 rfl ?_
    refine z_if_ne (tgt := 68) (pc' := 32) X (by first | assumption | omega | (have := h4 (by assumption); omega)) dX2_dry_29 rfl (by decide) (fun c29 => ?_) (fun c29 => ?_)
    · refine z_ret1 X dX2_dry_68 (Nat.le_of_ble_eq_true rfl) (Nat.le_of_ble_eq_true rfl) ?_
      refine ⟨rfl, ?_⟩
      rw [show dryE (f 2) e = (e.1, e.2.1, dryD (f 2) e, e.2.2.2.1, e.2.2.2.2) from if_neg c29, show dryC (f 2) e = 0 from if_neg (fun hh => c29 hh.1), iup_0]
      exact hX6
    · refine z_aload_n (pc' := 33) X dX2_dry_32 rfl rfl ?_
      refine z_aload_n (pc' := 34) X dX2_dry_33 rfl rfl ?_
      refine z_get1 (pc' := 37) (kf := 2) X in_X9 rfl (by decide) q642 (Or.inl rfl) (show h6 q = some (zO 7 [vI (e.1), vI (e.2.1), vI ((dryD (f 2) e)), vI (e.2.2.2.1), vI (e.2.2.2.2)]) from hX6.el1 hk6) rfl dX2_dry_34 rfl ?_
      refine z_bipush (pc' := 39) X dX2_dry_37 rfl (by decide) ?_
      refine z_icmp_lt (tgt := 51) (pc' := 42) X (by first | assumption | omega | (have := h4 (by assumption); omega)) (by first | assumption | omega | (have := h4 (by assumption); omega)) dX2_dry_39 rfl (by decide) (fun c39 => ?_) (fun c39 => ?_)
      · refine z_iconst (pc' := 52) X dX2_dry_51 rfl ?_
        rw [show (0 : Int) = dryW (f 2) e from (if_neg (Int.not_le.mpr c39)).symm]
        have hww : 0 ≤ dryW (f 2) e ∧ dryW (f 2) e ≤ 5 := by unfold dryW; split <;> omega
        refine z_put1 (pc' := 55) (kf := 3) X in_X9 tyX9 tyX9_ok nmX9 rfl (by decide) q645 (Or.inl rfl) rfl rfl rfl (Nat.le_of_ble_eq_true rfl) (show h6 q = some (zO 7 [vI (e.1), vI (e.2.1), vI ((dryD (f 2) e)), vI (e.2.2.2.1), vI (e.2.2.2.2)]) from hX6.el1 hk6) dX2_dry_52 rfl (fun h7 e7 => ?_)
        have hX7 : rX (zg C).2.2 h (fpS sh (f, rc, Ls)) sh (f, rc, (lup Ls 1 ((Ls 1).set j (q, (e.1, e.2.1, (dryD (f 2) e), (dryW (f 2) e), e.2.2.2.2))))) h7 := by rw [e7]; have t := hX6.elem (i := 1) (e' := (e.1, e.2.1, (dryD (f 2) e), (dryW (f 2) e), e.2.2.2.2)) (by decide) hk6 rfl; have t2 : rX (zg C).2.2 h (fpS sh (f, rc, Ls)) sh (f, rc, lup (lup Ls 1 ((Ls 1).set j (q, (e.1, e.2.1, (dryD (f 2) e), e.2.2.2.1, e.2.2.2.2)))) 1 (((Ls 1).set j (q, (e.1, e.2.1, (dryD (f 2) e), e.2.2.2.1, e.2.2.2.2))).set j (q, (e.1, e.2.1, (dryD (f 2) e), (dryW (f 2) e), e.2.2.2.2)))) _ := t; rw [lup_lup, set_set2] at t2; exact t2
        have hk7 : ((Ls 1).set j (q, (e.1, e.2.1, (dryD (f 2) e), (dryW (f 2) e), e.2.2.2.2)))[j]? = some (q, (e.1, e.2.1, (dryD (f 2) e), (dryW (f 2) e), e.2.2.2.2)) := set_at hq
        refine z_aload_n (pc' := 56) X dX2_dry_55 rfl rfl ?_
        refine z_get1 (pc' := 59) (kf := 3) X in_X9 rfl (by decide) q645 (Or.inl rfl) (show h7 q = some (zO 7 [vI (e.1), vI (e.2.1), vI ((dryD (f 2) e)), vI ((dryW (f 2) e)), vI (e.2.2.2.2)]) from hX7.el1 hk7) rfl dX2_dry_56 rfl ?_
        refine z_iconst (pc' := 60) X dX2_dry_59 rfl ?_
        refine z_icmp_ne (tgt := 68) (pc' := 63) X (by first | assumption | omega | (have := h4 (by assumption); omega)) (by first | assumption | omega | (have := h4 (by assumption); omega)) dX2_dry_60 rfl (by decide) (fun c60 => ?_) (fun c60 => ?_)
        · refine z_ret1 X dX2_dry_68 (Nat.le_of_ble_eq_true rfl) (Nat.le_of_ble_eq_true rfl) ?_
          refine ⟨rfl, ?_⟩
          rw [show dryE (f 2) e = (e.1, e.2.1, dryD (f 2) e, dryW (f 2) e, e.2.2.2.2) from (if_pos c29).trans (by rw [if_neg c60, c29]), show dryC (f 2) e = 0 from if_neg (fun hh => c60 hh.2), iup_0]
          exact hX7
        · refine z_aload_n (pc' := 64) X dX2_dry_63 rfl rfl ?_
          refine z_aload_n (pc' := 65) X dX2_dry_64 rfl rfl ?_
          refine z_callV1 (pc' := 68) X Y_X2_becomeMouldy q716 dX2_dry_65 rfl (Nat.le_of_ble_eq_true rfl) (Nat.le_of_ble_eq_true rfl) (Nat.le_of_ble_eq_true rfl) rfl rfl (Nat.le_of_ble_eq_true rfl) rfl ⟨_, hX7.stA⟩ (c_X2_becomeMouldy _ _ _ sh (f) rc ((lup Ls 1 ((Ls 1).set j (q, (e.1, e.2.1, (dryD (f 2) e), (dryW (f 2) e), e.2.2.2.2))))) hX7.1 (j) q (e.1, e.2.1, (dryD (f 2) e), (dryW (f 2) e), e.2.2.2.2) hk7) (fun v8 h8 p8 => ?_)
          obtain ⟨ev8, p8⟩ := p8
          subst ev8
          dsimp only [zst]
          have hX8 : rX (zg C).2.2 h (fpS sh (f, rc, Ls)) sh ((iup (f) 205 ((f) 205 + 1)), rc, (lup Ls 1 ((Ls 1).set j (q, (e.1, e.2.1, (dryD (f 2) e), (dryW (f 2) e), 1))))) h8 := by have t := hX7.comp p8; have t2 : rX (zg C).2.2 h (fpS sh (f, rc, Ls)) sh ((iup (f) 205 ((f) 205 + 1)), rc, lup (lup Ls 1 ((Ls 1).set j (q, (e.1, e.2.1, (dryD (f 2) e), (dryW (f 2) e), e.2.2.2.2)))) 1 (((Ls 1).set j (q, (e.1, e.2.1, (dryD (f 2) e), (dryW (f 2) e), e.2.2.2.2))).set j (q, (e.1, e.2.1, (dryD (f 2) e), (dryW (f 2) e), 1)))) _ := t; rw [lup_lup, set_set2] at t2; exact t2
          refine z_ret1 X dX2_dry_68 (Nat.le_of_ble_eq_true rfl) (Nat.le_of_ble_eq_true rfl) ?_
          refine ⟨rfl, ?_⟩
          rw [show dryE (f 2) e = (e.1, e.2.1, dryD (f 2) e, dryW (f 2) e, 1) from (if_pos c29).trans (by rw [if_pos c60]), show dryC (f 2) e = 1 from if_pos ⟨c29, c60⟩]
          exact hX8
      · refine z_aload_n (pc' := 43) X dX2_dry_42 rfl rfl ?_
        refine z_get1 (pc' := 46) (kf := 3) X in_X9 rfl (by decide) q645 (Or.inl rfl) (show h6 q = some (zO 7 [vI (e.1), vI (e.2.1), vI ((dryD (f 2) e)), vI (e.2.2.2.1), vI (e.2.2.2.2)]) from hX6.el1 hk6) rfl dX2_dry_43 rfl ?_
        refine z_iconst (pc' := 47) X dX2_dry_46 rfl ?_
        refine z_iadd (pc' := 48) X dX2_dry_47 rfl ?_
        refine z_goto (tgt := 52) X dX2_dry_48 (by decide) ?_
        rw [show (e.2.2.2.1 + 1) = dryW (f 2) e from (if_pos c39).symm]
        have hww : 0 ≤ dryW (f 2) e ∧ dryW (f 2) e ≤ 5 := by unfold dryW; split <;> omega
        refine z_put1 (pc' := 55) (kf := 3) X in_X9 tyX9 tyX9_ok nmX9 rfl (by decide) q645 (Or.inl rfl) rfl rfl rfl (Nat.le_of_ble_eq_true rfl) (show h6 q = some (zO 7 [vI (e.1), vI (e.2.1), vI ((dryD (f 2) e)), vI (e.2.2.2.1), vI (e.2.2.2.2)]) from hX6.el1 hk6) dX2_dry_52 rfl (fun h9 e9 => ?_)
        have hX9 : rX (zg C).2.2 h (fpS sh (f, rc, Ls)) sh (f, rc, (lup Ls 1 ((Ls 1).set j (q, (e.1, e.2.1, (dryD (f 2) e), (dryW (f 2) e), e.2.2.2.2))))) h9 := by rw [e9]; have t := hX6.elem (i := 1) (e' := (e.1, e.2.1, (dryD (f 2) e), (dryW (f 2) e), e.2.2.2.2)) (by decide) hk6 rfl; have t2 : rX (zg C).2.2 h (fpS sh (f, rc, Ls)) sh (f, rc, lup (lup Ls 1 ((Ls 1).set j (q, (e.1, e.2.1, (dryD (f 2) e), e.2.2.2.1, e.2.2.2.2)))) 1 (((Ls 1).set j (q, (e.1, e.2.1, (dryD (f 2) e), e.2.2.2.1, e.2.2.2.2))).set j (q, (e.1, e.2.1, (dryD (f 2) e), (dryW (f 2) e), e.2.2.2.2)))) _ := t; rw [lup_lup, set_set2] at t2; exact t2
        have hk9 : ((Ls 1).set j (q, (e.1, e.2.1, (dryD (f 2) e), (dryW (f 2) e), e.2.2.2.2)))[j]? = some (q, (e.1, e.2.1, (dryD (f 2) e), (dryW (f 2) e), e.2.2.2.2)) := set_at hq
        refine z_aload_n (pc' := 56) X dX2_dry_55 rfl rfl ?_
        refine z_get1 (pc' := 59) (kf := 3) X in_X9 rfl (by decide) q645 (Or.inl rfl) (show h9 q = some (zO 7 [vI (e.1), vI (e.2.1), vI ((dryD (f 2) e)), vI ((dryW (f 2) e)), vI (e.2.2.2.2)]) from hX9.el1 hk9) rfl dX2_dry_56 rfl ?_
        refine z_iconst (pc' := 60) X dX2_dry_59 rfl ?_
        refine z_icmp_ne (tgt := 68) (pc' := 63) X (by first | assumption | omega | (have := h4 (by assumption); omega)) (by first | assumption | omega | (have := h4 (by assumption); omega)) dX2_dry_60 rfl (by decide) (fun c60 => ?_) (fun c60 => ?_)
        · refine z_ret1 X dX2_dry_68 (Nat.le_of_ble_eq_true rfl) (Nat.le_of_ble_eq_true rfl) ?_
          refine ⟨rfl, ?_⟩
          rw [show dryE (f 2) e = (e.1, e.2.1, dryD (f 2) e, dryW (f 2) e, e.2.2.2.2) from (if_pos c29).trans (by rw [if_neg c60, c29]), show dryC (f 2) e = 0 from if_neg (fun hh => c60 hh.2), iup_0]
          exact hX9
        · refine z_aload_n (pc' := 64) X dX2_dry_63 rfl rfl ?_
          refine z_aload_n (pc' := 65) X dX2_dry_64 rfl rfl ?_
          refine z_callV1 (pc' := 68) X Y_X2_becomeMouldy q716 dX2_dry_65 rfl (Nat.le_of_ble_eq_true rfl) (Nat.le_of_ble_eq_true rfl) (Nat.le_of_ble_eq_true rfl) rfl rfl (Nat.le_of_ble_eq_true rfl) rfl ⟨_, hX9.stA⟩ (c_X2_becomeMouldy _ _ _ sh (f) rc ((lup Ls 1 ((Ls 1).set j (q, (e.1, e.2.1, (dryD (f 2) e), (dryW (f 2) e), e.2.2.2.2))))) hX9.1 (j) q (e.1, e.2.1, (dryD (f 2) e), (dryW (f 2) e), e.2.2.2.2) hk9) (fun v10 h10 p10 => ?_)
          obtain ⟨ev10, p10⟩ := p10
          subst ev10
          dsimp only [zst]
          have hX10 : rX (zg C).2.2 h (fpS sh (f, rc, Ls)) sh ((iup (f) 205 ((f) 205 + 1)), rc, (lup Ls 1 ((Ls 1).set j (q, (e.1, e.2.1, (dryD (f 2) e), (dryW (f 2) e), 1))))) h10 := by have t := hX9.comp p10; have t2 : rX (zg C).2.2 h (fpS sh (f, rc, Ls)) sh ((iup (f) 205 ((f) 205 + 1)), rc, lup (lup Ls 1 ((Ls 1).set j (q, (e.1, e.2.1, (dryD (f 2) e), (dryW (f 2) e), e.2.2.2.2)))) 1 (((Ls 1).set j (q, (e.1, e.2.1, (dryD (f 2) e), (dryW (f 2) e), e.2.2.2.2))).set j (q, (e.1, e.2.1, (dryD (f 2) e), (dryW (f 2) e), 1)))) _ := t; rw [lup_lup, set_set2] at t2; exact t2
          refine z_ret1 X dX2_dry_68 (Nat.le_of_ble_eq_true rfl) (Nat.le_of_ble_eq_true rfl) ?_
          refine ⟨rfl, ?_⟩
          rw [show dryE (f 2) e = (e.1, e.2.1, dryD (f 2) e, dryW (f 2) e, 1) from (if_pos c29).trans (by rw [if_pos c60]), show dryC (f 2) e = 1 from if_pos ⟨c29, c60⟩]
          exact hX10
end ZS3

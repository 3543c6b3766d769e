/-! THE STATE tied to the mill as lists; what only looks -/
section ZS1
def abB (e : El) : Bl := (e.1, e.2.1, e.2.2.1, if e.2.2.2.2 = 1 then -1 else e.2.2.2.1)
/-- the numbers f and the lists Ls are the mill S -/
def tie (f : Int → Int) (Ls : Nat → ELs) (S : St) : Prop :=
  (∀ j, ((0 ≤ j ∧ j ≤ 3) ∨ (7 ≤ j ∧ j ≤ 12)) → f j = S.1 j) ∧
  ((Ls 0).length = 4 ∧ ∀ (k : Nat) (q : Nat) (e : El), (Ls 0)[k]? = some (q, e) → e.1 = S.1 (13 + 2 * (k : Int)) ∧ e.2.1 = S.1 (13 + 2 * (k : Int) + 1)) ∧
  ((Ls 1).map (fun p => abB p.2) = S.2.1 ∧ (Ls 1).length ≤ 24 ∧ ∀ p ∈ Ls 1, (p.2.2.2.2.2 = 0 ∨ p.2.2.2.2.2 = 1) ∧ (0 ≤ p.2.2.2.2.1 ∧ p.2.2.2.2.1 ≤ 5)) ∧
  ((Ls 2).length = 3 ∧ ∀ (k : Nat) (q : Nat) (e : El), (Ls 2)[k]? = some (q, e) → e.1 = S.1 (117 + 3 * (k : Int)) ∧ e.2.1 = S.1 (117 + 3 * (k : Int) + 1) ∧ e.2.2.1 = S.1 (117 + 3 * (k : Int) + 2)) ∧
  ((Ls 3).length = 5 ∧ ∀ (k : Nat) (q : Nat) (e : El), (Ls 3)[k]? = some (q, e) → e.1 = (k : Int) % 3 ∧ e.2.1 = S.1 (126 + 3 * (k : Int)) ∧ e.2.2.1 = S.1 (126 + 3 * (k : Int) + 1) ∧ e.2.2.2.1 = S.1 (126 + 3 * (k : Int) + 2)) ∧
  ((Ls 4).map Prod.snd = S.2.2.1 ∧ (Ls 4).length ≤ 12 ∧ ∀ p ∈ Ls 4, 1 ≤ p.2.2.2.2.1) ∧
  ((Ls 5).map (fun p => (p.2.1, p.2.2.1, p.2.2.2.1)) = S.2.2.2.map (fun b => (b.2.1, b.2.2.1, b.2.2.2)) ∧ (Ls 5).length ≤ 30) ∧
  (40 * (f 201 - f 202 - f 203) - f 204 = unitsS S ∧ 0 ≤ f 205 ∧ f 205 ≤ 48 * f 0)
def okY (S : St) : Prop := okS 1990 1000000 10000000 S
theorem tie.bale {f : Int → Int} {Ls : Nat → ELs} {S : St} (T : tie f Ls S) (hk : okY S) {k q : Nat} {e : El} (h : (Ls 1)[k]? = some (q, e)) : (0 ≤ e.1 ∧ e.1 ≤ 3) ∧ (0 ≤ e.2.1 ∧ e.2.1 ≤ 300) ∧ (0 ≤ e.2.2.1 ∧ e.2.2.1 ≤ 99) ∧ (0 ≤ e.2.2.2.1 ∧ e.2.2.2.1 ≤ 5) ∧ (e.2.2.2.2 = 0 ∨ e.2.2.2.2 = 1) := by
  have hm := List.mem_of_getElem? h
  have h1 : abB e ∈ S.2.1 := by rw [← T.2.2.1.1]; exact List.mem_map.mpr ⟨_, hm, rfl⟩
  obtain ⟨b0, b1, b2, b3⟩ := hk.2.1 _ h1
  obtain ⟨c1, c2⟩ := T.2.2.1.2.2 _ hm
  exact ⟨b0, b1, b2, c2, c1⟩
theorem tie.pile {f : Int → Int} {Ls : Nat → ELs} {S : St} (T : tie f Ls S) (hk : okY S) {k q : Nat} {e : El} (h : (Ls 4)[k]? = some (q, e)) : (0 ≤ e.1 ∧ e.1 ≤ 9) ∧ (0 ≤ e.2.1 ∧ e.2.1 ≤ 2) ∧ (0 ≤ e.2.2.1 ∧ e.2.2.1 ≤ 2) ∧ (0 ≤ e.2.2.2.1 ∧ e.2.2.2.1 ≤ 480) ∧ (0 ≤ e.2.2.2.2 ∧ e.2.2.2.2 ≤ 1990) := by
  have h1 : e ∈ S.2.2.1 := by rw [← T.2.2.2.2.2.1.1]; exact List.mem_map.mpr ⟨_, List.mem_of_getElem? h, rfl⟩
  exact hk.2.2.1 _ h1
theorem tie.ream {f : Int → Int} {Ls : Nat → ELs} {S : St} (T : tie f Ls S) (hk : okY S) {k q : Nat} {e : El} (h : (Ls 5)[k]? = some (q, e)) : (0 ≤ e.1 ∧ e.1 ≤ 2) ∧ (0 ≤ e.2.1 ∧ e.2.1 ≤ 2) ∧ (0 ≤ e.2.2.1 ∧ e.2.2.1 ≤ 20) := by
  have h1 : (e.1, e.2.1, e.2.2.1) ∈ S.2.2.2.map (fun b => (b.2.1, b.2.2.1, b.2.2.2)) := by rw [← T.2.2.2.2.2.2.1.1]; exact List.mem_map.mpr ⟨_, List.mem_of_getElem? h, rfl⟩
  obtain ⟨b, hb, e1⟩ := List.mem_map.mp h1
  obtain ⟨b0, b1, b2, b3⟩ := hk.2.2.2 _ hb
  simp only [Prod.mk.injEq] at e1
  obtain ⟨x1, x2, x3⟩ := e1
  rw [← x1, ← x2, ← x3]
  exact ⟨b1, b2, b3⟩
theorem tie.lens {f : Int → Int} {Ls : Nat → ELs} {S : St} (T : tie f Ls S) : (Ls 1).length = S.2.1.length ∧ (Ls 4).length = S.2.2.1.length ∧ (Ls 5).length = S.2.2.2.length := by
  have h1 := congrArg List.length T.2.2.1.1
  have h2 := congrArg List.length T.2.2.2.2.2.1.1
  have h3 := congrArg List.length T.2.2.2.2.2.2.1.1
  rw [List.length_map] at h1 h2 h3
  rw [List.length_map] at h3
  exact ⟨h1, h2, h3⟩
theorem tie.all {f : Int → Int} {Ls : Nat → ELs} {S : St} (T : tie f Ls S) : ∀ i, i < 6 → (Ls i).length ≤ 40 := by
  obtain ⟨-, ⟨a, -⟩, ⟨-, b, -⟩, ⟨c, -⟩, ⟨d, -⟩, ⟨-, e, -⟩, ⟨-, z⟩, -⟩ := T
  exact six (by omega) (by omega) (by omega) (by omega) (by omega) (by omega)
theorem Y_X2_passLeft : zYV yX2_passLeft cX2_passLeft 3 (some .int) 1 := ⟨⟨q1250, q1251, q113, q1252⟩, by decide +kernel, by decide⟩
set_option maxRecDepth 100000 in
theorem c_X2_passLeft (l : Launch) (g : zG) (h : GH) (sh : Sh) (f : Int → Int) (rc : Nat) (Ls : Nat → ELs) (S : St) (w : rW g.2.2 h sh (f, rc, Ls)) (T : tie f Ls S) (hk : okY S) (c : Int) (hc : 0 ≤ c ∧ c < 4) : zPur l yX2_passLeft cX2_passLeft 3 (some .int) 6 [vR sh.1, vI c] g h (some (vI (passS S c))) := by
  refine zMet.mk (L0 := [some (vR sh.1), some (vI c), none]) (by decide) rfl (Nat.le_of_ble_eq_true rfl) rfl (fun C hg hl hnm X => ?_)
  subst hg hl
  have hX := w.start
  obtain ⟨T0, ⟨Tc, Tc2⟩, ⟨Tb, Tb1, Tb2⟩, ⟨Tv, Tv2⟩, ⟨Tm, Tm2⟩, ⟨Tp, Tp1, Tp2⟩, ⟨Tr, Tr1⟩, Ta, Tz⟩ := id T
  obtain ⟨⟨⟨kc1a, kc1b, kc1c, kc1d, kc1e⟩, kc2, kc3, kc4, kc5⟩, kb, kp, kq⟩ := id hk
  obtain ⟨Tl1, Tl4, Tl5⟩ := T.lens
  have z0 := T0 0 (by omega)
  have z1 := T0 1 (by omega)
  have z2 := T0 2 (by omega)
  have z3 := T0 3 (by omega)
  refine z_aload_n (pc' := 1) X dX2_passLeft_0 rfl rfl ?_
  refine z_get1 (pc' := 4) (kf := 11) X in_X2 rfl (by decide) q234 (Or.inl rfl) hX.stA rfl dX2_passLeft_1 rfl ?_
  refine z_iload_n (pc' := 5) X dX2_passLeft_4 rfl rfl ?_
  obtain ⟨q1, e1, hk1⟩ := ELs.at (ps := Ls 0) (k := c) (by first | assumption | omega)
  have t1 := Tc2 _ _ _ hk1
  rw [Int.toNat_of_nonneg (by omega)] at t1
  have b1 := kc3 (c) (by omega) (by omega)
  refine z_rget (pc' := 10) X q549 hX (i := 0) (by decide) (j := c) hk1 (by first | assumption | omega) dX2_passLeft_5 rfl (by decide) (Nat.le_of_ble_eq_true rfl) (Nat.le_of_ble_eq_true rfl) (Nat.le_of_ble_eq_true rfl) (by show (Ls 0).length ≤ 1000; omega) ?_
  refine z_castS1 (pc' := 13) X (ci := 3) q281 rfl ⟨_, (hX.el0 hk1)⟩ dX2_passLeft_10 rfl ?_
  refine z_get1 (pc' := 16) (kf := 1) X in_X4 rfl (by decide) q291 (Or.inl rfl) (hX.el0 hk1) rfl dX2_passLeft_13 rfl ?_
  refine z_aload_n (pc' := 17) X dX2_passLeft_16 rfl rfl ?_
  refine z_get1 (pc' := 20) (kf := 0) X in_X2 rfl (by decide) q212 (Or.inl rfl) hX.stA rfl dX2_passLeft_17 rfl ?_
  refine z_isub (pc' := 21) X dX2_passLeft_20 rfl ?_
  refine z_iconst (pc' := 22) X dX2_passLeft_21 rfl ?_
  refine z_iadd (pc' := 23) X dX2_passLeft_22 rfl ?_
  refine z_istore_n (pc' := 24) X dX2_passLeft_23 rfl (by decide) rfl ?_
  dsimp only [List.set]
  refine z_iload_n (pc' := 25) X dX2_passLeft_24 rfl rfl ?_
  refine z_if_le (tgt := 32) (pc' := 28) X (by first | assumption | omega) dX2_passLeft_25 rfl (by decide) (fun c25 => ?_) (fun c25 => ?_)
  · refine z_iconst (pc' := 33) X dX2_passLeft_32 rfl ?_
    refine z_iret1 X dX2_passLeft_33 (Nat.le_of_ble_eq_true rfl) (Nat.le_of_ble_eq_true rfl) ?_
    unfold passS
    exact ⟨by rw [if_neg (by omega)], rfl⟩
  · refine z_iload_n (pc' := 29) X dX2_passLeft_28 rfl rfl ?_
    refine z_goto (tgt := 33) X dX2_passLeft_29 (by decide) ?_
    refine z_iret1 X dX2_passLeft_33 (Nat.le_of_ble_eq_true rfl) (Nat.le_of_ble_eq_true rfl) ?_
    unfold passS
    exact ⟨by rw [if_pos (by omega), t1.2, z0], rfl⟩
theorem Y_X2_toll : zYV yX2_toll cX2_toll 4 (some .int) 2 := ⟨⟨q1246, q1247, q113, q1248⟩, by decide +kernel, by decide⟩
set_option maxRecDepth 100000 in
theorem c_X2_toll (l : Launch) (g : zG) (h : GH) (sh : Sh) (f : Int → Int) (rc : Nat) (Ls : Nat → ELs) (S : St) (w : rW g.2.2 h sh (f, rc, Ls)) (T : tie f Ls S) (hk : okY S) (c x : Int) (hc : 0 ≤ c ∧ c < 4) (hx : 0 ≤ x ∧ x ≤ 1000) : zPur l yX2_toll cX2_toll 4 (some .int) 8 [vR sh.1, vI c, vI x] g h (some (vI (tollS S c x))) := by
  refine zMet.mk (L0 := [some (vR sh.1), some (vI c), some (vI x), none]) (by decide) rfl (Nat.le_of_ble_eq_true rfl) rfl (fun C hg hl hnm X => ?_)
  subst hg hl
  have hX := w.start
  obtain ⟨T0, ⟨Tc, Tc2⟩, ⟨Tb, Tb1, Tb2⟩, ⟨Tv, Tv2⟩, ⟨Tm, Tm2⟩, ⟨Tp, Tp1, Tp2⟩, ⟨Tr, Tr1⟩, Ta, Tz⟩ := id T
  obtain ⟨⟨⟨kc1a, kc1b, kc1c, kc1d, kc1e⟩, kc2, kc3, kc4, kc5⟩, kb, kp, kq⟩ := id hk
  obtain ⟨Tl1, Tl4, Tl5⟩ := T.lens
  have z0 := T0 0 (by omega)
  have z1 := T0 1 (by omega)
  have z2 := T0 2 (by omega)
  have z3 := T0 3 (by omega)
  have bp : 0 ≤ passS S c ∧ passS S c ≤ 2000 := by
    have b := kc3 c (by omega) (by omega)
    unfold passS
    split <;> omega
  refine z_iload_n (pc' := 1) X dX2_toll_0 rfl rfl ?_
  refine z_bipush (pc' := 3) X dX2_toll_1 rfl (by decide) ?_
  refine z_iadd (pc' := 4) X dX2_toll_3 rfl ?_
  refine z_bipush (pc' := 6) X dX2_toll_4 rfl (by decide) ?_
  refine z_idivp (pc' := 7) X (by first | assumption | omega) (by decide) dX2_toll_6 rfl ?_
  refine z_iconst (pc' := 8) X dX2_toll_7 rfl ?_
  refine z_imul (pc' := 9) X dX2_toll_8 rfl ?_
  refine z_istore_n (pc' := 10) X dX2_toll_9 rfl (by decide) rfl ?_
  dsimp only [List.set]
  refine z_aload_n (pc' := 11) X dX2_toll_10 rfl rfl ?_
  refine z_iload_n (pc' := 12) X dX2_toll_11 rfl rfl ?_
  refine z_callV0 (pc' := 15) X Y_X2_passLeft q1249 dX2_toll_12 rfl (Nat.le_of_ble_eq_true rfl) (Nat.le_of_ble_eq_true rfl) (Nat.le_of_ble_eq_true rfl) rfl rfl (Nat.le_of_ble_eq_true rfl) rfl ⟨_, hX.stA⟩ (c_X2_passLeft _ _ _ sh (f) rc (Ls) S hX.1 T hk (c) (by first | assumption | omega)) ?_
  dsimp only [zst]
  refine z_if_le (tgt := 24) (pc' := 18) X (by first | assumption | omega) dX2_toll_15 rfl (by decide) (fun c15 => ?_) (fun c15 => ?_)
  · refine z_iload_n (pc' := 25) X dX2_toll_24 rfl rfl ?_
    refine z_iret1 X dX2_toll_25 (Nat.le_of_ble_eq_true rfl) (Nat.le_of_ble_eq_true rfl) ?_
    unfold passS at c15
    unfold tollS
    exact ⟨by rw [if_neg (by split at c15 <;> omega), Int.mul_comm], rfl⟩
  · refine z_iload_n (pc' := 19) X dX2_toll_18 rfl rfl ?_
    refine z_iconst (pc' := 20) X dX2_toll_19 rfl ?_
    refine z_idivp (pc' := 21) X (by first | assumption | omega) (by decide) dX2_toll_20 rfl ?_
    refine z_goto (tgt := 25) X dX2_toll_21 (by decide) ?_
    refine z_iret1 X dX2_toll_25 (Nat.le_of_ble_eq_true rfl) (Nat.le_of_ble_eq_true rfl) ?_
    unfold passS at c15
    unfold tollS
    exact ⟨by rw [if_pos (by split at c15 <;> omega), Int.mul_ediv_cancel _ (by decide)], rfl⟩
theorem Y_X2_canOwe : zYV yX2_canOwe cX2_canOwe 3 (some .boolean) 2 := ⟨⟨q1254, q1255, q113, q1256⟩, by decide +kernel, by decide⟩
set_option maxRecDepth 100000 in
theorem c_X2_canOwe (l : Launch) (g : zG) (h : GH) (sh : Sh) (f : Int → Int) (rc : Nat) (Ls : Nat → ELs) (S : St) (w : rW g.2.2 h sh (f, rc, Ls)) (T : tie f Ls S) (hk : okY S) (c x : Int) (hc : 0 ≤ c ∧ c < 4) (hx : 0 ≤ x ∧ x ≤ 10000) : zPur l yX2_canOwe cX2_canOwe 3 (some .boolean) 6 [vR sh.1, vI c, vI x] g h (some (vI (bI (S.1 (13 + 2 * c) + x ≤ 300)))) := by
  refine zMet.mk (L0 := [some (vR sh.1), some (vI c), some (vI x)]) (by decide) rfl (Nat.le_of_ble_eq_true rfl) rfl (fun C hg hl hnm X => ?_)
  subst hg hl
  have hX := w.start
  obtain ⟨T0, ⟨Tc, Tc2⟩, ⟨Tb, Tb1, Tb2⟩, ⟨Tv, Tv2⟩, ⟨Tm, Tm2⟩, ⟨Tp, Tp1, Tp2⟩, ⟨Tr, Tr1⟩, Ta, Tz⟩ := id T
  obtain ⟨⟨⟨kc1a, kc1b, kc1c, kc1d, kc1e⟩, kc2, kc3, kc4, kc5⟩, kb, kp, kq⟩ := id hk
  obtain ⟨Tl1, Tl4, Tl5⟩ := T.lens
  have z0 := T0 0 (by omega)
  have z1 := T0 1 (by omega)
  have z2 := T0 2 (by omega)
  have z3 := T0 3 (by omega)
  refine z_aload_n (pc' := 1) X dX2_canOwe_0 rfl rfl ?_
  refine z_get1 (pc' := 4) (kf := 11) X in_X2 rfl (by decide) q234 (Or.inl rfl) hX.stA rfl dX2_canOwe_1 rfl ?_
  refine z_iload_n (pc' := 5) X dX2_canOwe_4 rfl rfl ?_
  obtain ⟨q1, e1, hk1⟩ := ELs.at (ps := Ls 0) (k := c) (by first | assumption | omega)
  have t1 := Tc2 _ _ _ hk1
  rw [Int.toNat_of_nonneg (by omega)] at t1
  have b1 := kc3 (c) (by omega) (by omega)
  refine z_rget (pc' := 10) X q549 hX (i := 0) (by decide) (j := c) hk1 (by first | assumption | omega) dX2_canOwe_5 rfl (by decide) (Nat.le_of_ble_eq_true rfl) (Nat.le_of_ble_eq_true rfl) (Nat.le_of_ble_eq_true rfl) (by show (Ls 0).length ≤ 1000; omega) ?_
  refine z_castS1 (pc' := 13) X (ci := 3) q281 rfl ⟨_, (hX.el0 hk1)⟩ dX2_canOwe_10 rfl ?_
  refine z_get1 (pc' := 16) (kf := 0) X in_X4 rfl (by decide) q288 (Or.inl rfl) (hX.el0 hk1) rfl dX2_canOwe_13 rfl ?_
  refine z_iload_n (pc' := 17) X dX2_canOwe_16 rfl rfl ?_
  refine z_iadd (pc' := 18) X dX2_canOwe_17 rfl ?_
  refine z_sipush (pc' := 21) X dX2_canOwe_18 rfl (by decide) ?_
  refine z_icmp_gt (tgt := 28) (pc' := 24) X (by first | assumption | omega) (by first | assumption | omega) dX2_canOwe_21 rfl (by decide) (fun c21 => ?_) (fun c21 => ?_)
  · refine z_iconst (pc' := 29) X dX2_canOwe_28 rfl ?_
    refine z_zret1 X dX2_canOwe_29 (by first | exact nar_0 | exact nar_1 | exact nar_bI _ | exact nar_b (by omega)) (Nat.le_of_ble_eq_true rfl) (Nat.le_of_ble_eq_true rfl) ?_
    exact ⟨by rw [bI_f (by omega)], rfl⟩
  · refine z_iconst (pc' := 25) X dX2_canOwe_24 rfl ?_
    refine z_goto (tgt := 29) X dX2_canOwe_25 (by decide) ?_
    refine z_zret1 X dX2_canOwe_29 (by first | exact nar_0 | exact nar_1 | exact nar_bI _ | exact nar_b (by omega)) (Nat.le_of_ble_eq_true rfl) (Nat.le_of_ble_eq_true rfl) ?_
    exact ⟨by rw [bI_t (by omega)], rfl⟩
theorem Y_X2_hasRoomForReam : zYV yX2_hasRoomForReam cX2_hasRoomForReam 1 (some .boolean) 0 := ⟨⟨q1673, q1674, q113, q1675⟩, by decide +kernel, by decide⟩
set_option maxRecDepth 100000 in
theorem c_X2_hasRoomForReam (l : Launch) (g : zG) (h : GH) (sh : Sh) (f : Int → Int) (rc : Nat) (Ls : Nat → ELs) (S : St) (w : rW g.2.2 h sh (f, rc, Ls)) (T : tie f Ls S) (hk : okY S)  : zPur l yX2_hasRoomForReam cX2_hasRoomForReam 1 (some .boolean) 6 [vR sh.1] g h (some (vI (bI (S.2.2.2.length < 30)))) := by
  refine zMet.mk (L0 := [some (vR sh.1)]) (by decide) rfl (Nat.le_of_ble_eq_true rfl) rfl (fun C hg hl hnm X => ?_)
  subst hg hl
  have hX := w.start
  obtain ⟨T0, ⟨Tc, Tc2⟩, ⟨Tb, Tb1, Tb2⟩, ⟨Tv, Tv2⟩, ⟨Tm, Tm2⟩, ⟨Tp, Tp1, Tp2⟩, ⟨Tr, Tr1⟩, Ta, Tz⟩ := id T
  obtain ⟨⟨⟨kc1a, kc1b, kc1c, kc1d, kc1e⟩, kc2, kc3, kc4, kc5⟩, kb, kp, kq⟩ := id hk
  obtain ⟨Tl1, Tl4, Tl5⟩ := T.lens
  have z0 := T0 0 (by omega)
  have z1 := T0 1 (by omega)
  have z2 := T0 2 (by omega)
  have z3 := T0 3 (by omega)
  refine z_aload_n (pc' := 1) X dX2_hasRoomForReam_0 rfl rfl ?_
  refine z_get1 (pc' := 4) (kf := 16) X in_X2 rfl (by decide) q244 (Or.inl rfl) hX.stA rfl dX2_hasRoomForReam_1 rfl ?_
  refine z_rsize (pc' := 9) X q547 hX (i := 5) (by decide) dX2_hasRoomForReam_4 rfl (by decide) (Nat.le_of_ble_eq_true rfl) (Nat.le_of_ble_eq_true rfl) (Nat.le_of_ble_eq_true rfl) ?_
  refine z_bipush (pc' := 11) X dX2_hasRoomForReam_9 rfl (by decide) ?_
  refine z_icmp_ge (tgt := 18) (pc' := 14) X (by first | assumption | omega) (by first | assumption | omega) dX2_hasRoomForReam_11 rfl (by decide) (fun c11 => ?_) (fun c11 => ?_)
  · refine z_iconst (pc' := 19) X dX2_hasRoomForReam_18 rfl ?_
    refine z_zret1 X dX2_hasRoomForReam_19 (by first | exact nar_0 | exact nar_1 | exact nar_bI _ | exact nar_b (by omega)) (Nat.le_of_ble_eq_true rfl) (Nat.le_of_ble_eq_true rfl) ?_
    exact ⟨by rw [bI_f (by omega)], rfl⟩
  · refine z_iconst (pc' := 15) X dX2_hasRoomForReam_14 rfl ?_
    refine z_goto (tgt := 19) X dX2_hasRoomForReam_15 (by decide) ?_
    refine z_zret1 X dX2_hasRoomForReam_19 (by first | exact nar_0 | exact nar_1 | exact nar_bI _ | exact nar_b (by omega)) (Nat.le_of_ble_eq_true rfl) (Nat.le_of_ble_eq_true rfl) ?_
    exact ⟨by rw [bI_t (by omega)], rfl⟩
theorem Y_X2_canPass : zYV yX2_canPass cX2_canPass 2 (some .boolean) 1 := ⟨⟨q1389, q1390, q113, q1391⟩, by decide +kernel, by decide⟩
set_option maxRecDepth 100000 in
theorem c_X2_canPass (l : Launch) (g : zG) (h : GH) (sh : Sh) (f : Int → Int) (rc : Nat) (Ls : Nat → ELs) (S : St) (w : rW g.2.2 h sh (f, rc, Ls)) (T : tie f Ls S) (hk : okY S) (n : Int) (hn : 0 ≤ n ∧ n ≤ 1000) : zPur l yX2_canPass cX2_canPass 2 (some .boolean) 6 [vR sh.1, vI n] g h (some (vI (bI (S.1 0 + n ≤ 999)))) := by
  refine zMet.mk (L0 := [some (vR sh.1), some (vI n)]) (by decide) rfl (Nat.le_of_ble_eq_true rfl) rfl (fun C hg hl hnm X => ?_)
  subst hg hl
  have hX := w.start
  obtain ⟨T0, ⟨Tc, Tc2⟩, ⟨Tb, Tb1, Tb2⟩, ⟨Tv, Tv2⟩, ⟨Tm, Tm2⟩, ⟨Tp, Tp1, Tp2⟩, ⟨Tr, Tr1⟩, Ta, Tz⟩ := id T
  obtain ⟨⟨⟨kc1a, kc1b, kc1c, kc1d, kc1e⟩, kc2, kc3, kc4, kc5⟩, kb, kp, kq⟩ := id hk
  obtain ⟨Tl1, Tl4, Tl5⟩ := T.lens
  have z0 := T0 0 (by omega)
  have z1 := T0 1 (by omega)
  have z2 := T0 2 (by omega)
  have z3 := T0 3 (by omega)
  refine z_aload_n (pc' := 1) X dX2_canPass_0 rfl rfl ?_
  refine z_get1 (pc' := 4) (kf := 0) X in_X2 rfl (by decide) q212 (Or.inl rfl) hX.stA rfl dX2_canPass_1 rfl ?_
  refine z_iload_n (pc' := 5) X dX2_canPass_4 rfl rfl ?_
  refine z_iadd (pc' := 6) X dX2_canPass_5 rfl ?_
  refine z_sipush (pc' := 9) X dX2_canPass_6 rfl (by decide) ?_
  refine z_icmp_gt (tgt := 16) (pc' := 12) X (by first | assumption | omega) (by first | assumption | omega) dX2_canPass_9 rfl (by decide) (fun c9 => ?_) (fun c9 => ?_)
  · refine z_iconst (pc' := 17) X dX2_canPass_16 rfl ?_
    refine z_zret1 X dX2_canPass_17 (by first | exact nar_0 | exact nar_1 | exact nar_bI _ | exact nar_b (by omega)) (Nat.le_of_ble_eq_true rfl) (Nat.le_of_ble_eq_true rfl) ?_
    exact ⟨by rw [bI_f (by omega)], rfl⟩
  · refine z_iconst (pc' := 13) X dX2_canPass_12 rfl ?_
    refine z_goto (tgt := 17) X dX2_canPass_13 (by decide) ?_
    refine z_zret1 X dX2_canPass_17 (by first | exact nar_0 | exact nar_1 | exact nar_bI _ | exact nar_b (by omega)) (Nat.le_of_ble_eq_true rfl) (Nat.le_of_ble_eq_true rfl) ?_
    exact ⟨by rw [bI_t (by omega)], rfl⟩
theorem bI_rng2 {b : Prop} [Decidable b] : rng (bI b) := by
  have := bI_rng (b := b)
  unfold rng
  omega
theorem bI_n0 {b : Prop} [Decidable b] (h : bI b ≠ 0) : b := Classical.byContradiction fun hn => h (bI_f hn)
theorem bI_e0 {b : Prop} [Decidable b] (h : bI b = 0) : ¬ b := bI_0.mp h
theorem Y_X2_canStamp : zYV yX2_canStamp cX2_canStamp 3 (some .boolean) 2 := ⟨⟨q1311, q1312, q113, q1313⟩, by decide +kernel, by decide⟩
set_option maxRecDepth 100000 in
theorem c_X2_canStamp (l : Launch) (g : zG) (h : GH) (sh : Sh) (f : Int → Int) (rc : Nat) (Ls : Nat → ELs) (S : St) (w : rW g.2.2 h sh (f, rc, Ls)) (T : tie f Ls S) (hk : okY S) (v t : Int) (hv : 0 ≤ v ∧ v < 3) (ht : 0 ≤ t ∧ t ≤ 1000) : zPur l yX2_canStamp cX2_canStamp 3 (some .boolean) 6 [vR sh.1, vI v, vI t] g h (some (vI (bI (S.1 (117 + 3 * v) ≠ 0 ∧ S.1 (117 + 3 * v + 1) + t ≤ 48)))) := by
  refine zMet.mk (L0 := [some (vR sh.1), some (vI v), some (vI t)]) (by decide) rfl (Nat.le_of_ble_eq_true rfl) rfl (fun C hg hl hnm X => ?_)
  subst hg hl
  have hX := w.start
  obtain ⟨T0, ⟨Tc, Tc2⟩, ⟨Tb, Tb1, Tb2⟩, ⟨Tv, Tv2⟩, ⟨Tm, Tm2⟩, ⟨Tp, Tp1, Tp2⟩, ⟨Tr, Tr1⟩, Ta, Tz⟩ := id T
  obtain ⟨⟨⟨kc1a, kc1b, kc1c, kc1d, kc1e⟩, kc2, kc3, kc4, kc5⟩, kb, kp, kq⟩ := id hk
  obtain ⟨Tl1, Tl4, Tl5⟩ := T.lens
  have z0 := T0 0 (by omega)
  have z1 := T0 1 (by omega)
  have z2 := T0 2 (by omega)
  have z3 := T0 3 (by omega)
  refine z_aload_n (pc' := 1) X dX2_canStamp_0 rfl rfl ?_
  refine z_get1 (pc' := 4) (kf := 13) X in_X2 rfl (by decide) q238 (Or.inl rfl) hX.stA rfl dX2_canStamp_1 rfl ?_
  refine z_iload_n (pc' := 5) X dX2_canStamp_4 rfl rfl ?_
  obtain ⟨q1, e1, hk1⟩ := ELs.at (ps := Ls 2) (k := v) (by first | assumption | omega | exact bI_rng2)
  have t1 := Tv2 _ _ _ hk1
  rw [Int.toNat_of_nonneg (by omega)] at t1
  have b1 := kc4 (v) (by omega) (by omega)
  refine z_rget (pc' := 10) X q549 hX (i := 2) (by decide) (j := v) hk1 (by first | assumption | omega | exact bI_rng2) dX2_canStamp_5 rfl (by decide) (Nat.le_of_ble_eq_true rfl) (Nat.le_of_ble_eq_true rfl) (Nat.le_of_ble_eq_true rfl) (by show (Ls 2).length ≤ 1000; omega) ?_
  refine z_castS1 (pc' := 13) X (ci := 4) q380 rfl ⟨_, (hX.el2 hk1)⟩ dX2_canStamp_10 rfl ?_
  refine z_callV0 (pc' := 16) X Y_X5_isEmpty q1279 dX2_canStamp_13 rfl (Nat.le_of_ble_eq_true rfl) (Nat.le_of_ble_eq_true rfl) (Nat.le_of_ble_eq_true rfl) rfl rfl (Nat.le_of_ble_eq_true rfl) rfl ⟨_, (hX.el2 hk1)⟩ (c_X5_isEmpty _ _ _ _ _ _ _ (hX.el2 hk1) (by first | assumption | omega | exact bI_rng2)) ?_
  dsimp only [zst]
  refine z_if_ne (tgt := 46) (pc' := 19) X (by first | assumption | omega | exact bI_rng2) dX2_canStamp_16 rfl (by decide) (fun c16 => ?_) (fun c16 => ?_)
  · refine z_iconst (pc' := 47) X dX2_canStamp_46 rfl ?_
    refine z_zret1 X dX2_canStamp_47 (by first | exact nar_0 | exact nar_1 | exact nar_bI _ | exact nar_b (by omega)) (Nat.le_of_ble_eq_true rfl) (Nat.le_of_ble_eq_true rfl) ?_
    exact ⟨by rw [bI_f (fun hh => hh.1 (by have := bI_n0 c16; omega))], rfl⟩
  · refine z_aload_n (pc' := 20) X dX2_canStamp_19 rfl rfl ?_
    refine z_get1 (pc' := 23) (kf := 13) X in_X2 rfl (by decide) q238 (Or.inl rfl) hX.stA rfl dX2_canStamp_20 rfl ?_
    refine z_iload_n (pc' := 24) X dX2_canStamp_23 rfl rfl ?_
    refine z_rget (pc' := 29) X q549 hX (i := 2) (by decide) (j := v) hk1 (by first | assumption | omega | exact bI_rng2) dX2_canStamp_24 rfl (by decide) (Nat.le_of_ble_eq_true rfl) (Nat.le_of_ble_eq_true rfl) (Nat.le_of_ble_eq_true rfl) (by show (Ls 2).length ≤ 1000; omega) ?_
    refine z_castS1 (pc' := 32) X (ci := 4) q380 rfl ⟨_, (hX.el2 hk1)⟩ dX2_canStamp_29 rfl ?_
    refine z_get1 (pc' := 35) (kf := 1) X in_X5 rfl (by decide) q390 (Or.inl rfl) (hX.el2 hk1) rfl dX2_canStamp_32 rfl ?_
    refine z_iload_n (pc' := 36) X dX2_canStamp_35 rfl rfl ?_
    refine z_iadd (pc' := 37) X dX2_canStamp_36 rfl ?_
    refine z_bipush (pc' := 39) X dX2_canStamp_37 rfl (by decide) ?_
    refine z_icmp_gt (tgt := 46) (pc' := 42) X (by first | assumption | omega | exact bI_rng2) (by first | assumption | omega | exact bI_rng2) dX2_canStamp_39 rfl (by decide) (fun c39 => ?_) (fun c39 => ?_)
    · refine z_iconst (pc' := 47) X dX2_canStamp_46 rfl ?_
      refine z_zret1 X dX2_canStamp_47 (by first | exact nar_0 | exact nar_1 | exact nar_bI _ | exact nar_b (by omega)) (Nat.le_of_ble_eq_true rfl) (Nat.le_of_ble_eq_true rfl) ?_
      exact ⟨by rw [bI_f (fun hh => by omega)], rfl⟩
    · refine z_iconst (pc' := 43) X dX2_canStamp_42 rfl ?_
      refine z_goto (tgt := 47) X dX2_canStamp_43 (by decide) ?_
      refine z_zret1 X dX2_canStamp_47 (by first | exact nar_0 | exact nar_1 | exact nar_bI _ | exact nar_b (by omega)) (Nat.le_of_ble_eq_true rfl) (Nat.le_of_ble_eq_true rfl) ?_
      exact ⟨by rw [bI_t ⟨fun hh => bI_e0 c16 (by omega), by omega⟩], rfl⟩
theorem Y_X2_points : zYV yX2_points cX2_points 4 (some .int) 2 := ⟨⟨q1341, q1342, q113, q1343⟩, by decide +kernel, by decide⟩
set_option maxRecDepth 100000 in
theorem c_X2_points (l : Launch) (g : zG) (h : GH) (sh : Sh) (f : Int → Int) (rc : Nat) (Ls : Nat → ELs) (S : St) (w : rW g.2.2 h sh (f, rc, Ls)) (T : tie f Ls S) (hk : okY S) (v m : Int) (hv : 0 ≤ v ∧ v < 3) (hm : 0 ≤ m ∧ m < 5) : zPur l yX2_points cX2_points 4 (some .int) 6 [vR sh.1, vI v, vI m] g h (some (vI (ptsN S.1 v m))) := by
  refine zMet.mk (L0 := [some (vR sh.1), some (vI v), some (vI m), none]) (by decide) rfl (Nat.le_of_ble_eq_true rfl) rfl (fun C hg hl hnm X => ?_)
  subst hg hl
  have hX := w.start
  obtain ⟨T0, ⟨Tc, Tc2⟩, ⟨Tb, Tb1, Tb2⟩, ⟨Tv, Tv2⟩, ⟨Tm, Tm2⟩, ⟨Tp, Tp1, Tp2⟩, ⟨Tr, Tr1⟩, Ta, Tz⟩ := id T
  obtain ⟨⟨⟨kc1a, kc1b, kc1c, kc1d, kc1e⟩, kc2, kc3, kc4, kc5⟩, kb, kp, kq⟩ := id hk
  obtain ⟨Tl1, Tl4, Tl5⟩ := T.lens
  have z0 := T0 0 (by omega)
  have z1 := T0 1 (by omega)
  have z2 := T0 2 (by omega)
  have z3 := T0 3 (by omega)
  refine z_aload_n (pc' := 1) X dX2_points_0 rfl rfl ?_
  refine z_get1 (pc' := 4) (kf := 13) X in_X2 rfl (by decide) q238 (Or.inl rfl) hX.stA rfl dX2_points_1 rfl ?_
  refine z_iload_n (pc' := 5) X dX2_points_4 rfl rfl ?_
  obtain ⟨q1, e1, hk1⟩ := ELs.at (ps := Ls 2) (k := v) (by first | assumption | omega)
  have t1 := Tv2 _ _ _ hk1
  rw [Int.toNat_of_nonneg (by omega)] at t1
  have b1 := kc4 (v) (by omega) (by omega)
  refine z_rget (pc' := 10) X q549 hX (i := 2) (by decide) (j := v) hk1 (by first | assumption | omega) dX2_points_5 rfl (by decide) (Nat.le_of_ble_eq_true rfl) (Nat.le_of_ble_eq_true rfl) (Nat.le_of_ble_eq_true rfl) (by show (Ls 2).length ≤ 1000; omega) ?_
  refine z_castS1 (pc' := 13) X (ci := 4) q380 rfl ⟨_, (hX.el2 hk1)⟩ dX2_points_10 rfl ?_
  refine z_astore_n (pc' := 14) X dX2_points_13 rfl (by decide) rfl ?_
  dsimp only [List.set]
  refine z_aload_n (pc' := 15) X dX2_points_14 rfl rfl ?_
  refine z_get1 (pc' := 18) (kf := 2) X in_X5 rfl (by decide) q393 (Or.inl rfl) (hX.el2 hk1) rfl dX2_points_15 rfl ?_
  refine z_aload_n (pc' := 19) X dX2_points_18 rfl rfl ?_
  refine z_callV0 (pc' := 22) X Y_X5_fineness q1344 dX2_points_19 rfl (Nat.le_of_ble_eq_true rfl) (Nat.le_of_ble_eq_true rfl) (Nat.le_of_ble_eq_true rfl) rfl rfl (Nat.le_of_ble_eq_true rfl) rfl ⟨_, (hX.el2 hk1)⟩ (c_X5_fineness _ _ _ _ _ _ _ (hX.el2 hk1) (by first | assumption | omega)) ?_
  dsimp only [zst]
  refine z_iadd (pc' := 23) X dX2_points_22 rfl ?_
  refine z_aload_n (pc' := 24) X dX2_points_23 rfl rfl ?_
  refine z_get1 (pc' := 27) (kf := 14) X in_X2 rfl (by decide) q240 (Or.inl rfl) hX.stA rfl dX2_points_24 rfl ?_
  refine z_iload_n (pc' := 28) X dX2_points_27 rfl rfl ?_
  obtain ⟨q3, e3, hk3⟩ := ELs.at (ps := Ls 3) (k := m) (by first | assumption | omega)
  have t3 := Tm2 _ _ _ hk3
  rw [Int.toNat_of_nonneg (by omega)] at t3
  have b3 := kc5 (m) (by omega) (by omega)
  refine z_rget (pc' := 33) X q549 hX (i := 3) (by decide) (j := m) hk3 (by first | assumption | omega) dX2_points_28 rfl (by decide) (Nat.le_of_ble_eq_true rfl) (Nat.le_of_ble_eq_true rfl) (Nat.le_of_ble_eq_true rfl) (by show (Ls 3).length ≤ 1000; omega) ?_
  refine z_castS1 (pc' := 36) X (ci := 5) q402 rfl ⟨_, (hX.el3 hk3)⟩ dX2_points_33 rfl ?_
  refine z_get1 (pc' := 39) (kf := 2) X in_X6 rfl (by decide) q423 (Or.inl rfl) (hX.el3 hk3) rfl dX2_points_36 rfl ?_
  refine z_bipush (pc' := 41) X dX2_points_39 rfl (by decide) ?_
  refine z_idivp (pc' := 42) X (by first | assumption | omega) (by decide) dX2_points_41 rfl ?_
  refine z_isub (pc' := 43) X dX2_points_42 rfl ?_
  refine z_iret1 X dX2_points_43 (Nat.le_of_ble_eq_true rfl) (Nat.le_of_ble_eq_true rfl) ?_
  unfold ptsN
  exact ⟨by rw [t1.2.2, t1.2.1, t3.2.2.1], rfl⟩
theorem Y_X2_unitsByAccount : zYV yX2_unitsByAccount cX2_unitsByAccount 1 (some .int) 0 := ⟨⟨q592, q593, q113, q594⟩, by decide +kernel, by decide⟩
set_option maxRecDepth 100000 in
theorem c_X2_unitsByAccount (l : Launch) (g : zG) (h : GH) (sh : Sh) (f : Int → Int) (rc : Nat) (Ls : Nat → ELs) (S : St) (w : rW g.2.2 h sh (f, rc, Ls)) (T : tie f Ls S) (hk : okY S)  : zPur l yX2_unitsByAccount cX2_unitsByAccount 1 (some .int) 1 [vR sh.1] g h (some (vI (unitsS S))) := by
  refine zMet.mk (L0 := [some (vR sh.1)]) (by decide) rfl (Nat.le_of_ble_eq_true rfl) rfl (fun C hg hl hnm X => ?_)
  subst hg hl
  have hX := w.start
  obtain ⟨T0, ⟨Tc, Tc2⟩, ⟨Tb, Tb1, Tb2⟩, ⟨Tv, Tv2⟩, ⟨Tm, Tm2⟩, ⟨Tp, Tp1, Tp2⟩, ⟨Tr, Tr1⟩, Ta, Tz⟩ := id T
  obtain ⟨⟨⟨kc1a, kc1b, kc1c, kc1d, kc1e⟩, kc2, kc3, kc4, kc5⟩, kb, kp, kq⟩ := id hk
  obtain ⟨Tl1, Tl4, Tl5⟩ := T.lens
  have z0 := T0 0 (by omega)
  have z1 := T0 1 (by omega)
  have z2 := T0 2 (by omega)
  have z3 := T0 3 (by omega)
  refine z_bipush (pc' := 2) X dX2_unitsByAccount_0 rfl (by decide) ?_
  refine z_aload_n (pc' := 3) X dX2_unitsByAccount_2 rfl rfl ?_
  refine z_get1 (pc' := 6) (kf := 5) X in_X2 rfl (by decide) q223 (Or.inl rfl) hX.stA rfl dX2_unitsByAccount_3 rfl ?_
  refine z_aload_n (pc' := 7) X dX2_unitsByAccount_6 rfl rfl ?_
  refine z_get1 (pc' := 10) (kf := 6) X in_X2 rfl (by decide) q224 (Or.inl rfl) hX.stA rfl dX2_unitsByAccount_7 rfl ?_
  refine z_isub (pc' := 11) X dX2_unitsByAccount_10 rfl ?_
  refine z_aload_n (pc' := 12) X dX2_unitsByAccount_11 rfl rfl ?_
  refine z_get1 (pc' := 15) (kf := 7) X in_X2 rfl (by decide) q226 (Or.inl rfl) hX.stA rfl dX2_unitsByAccount_12 rfl ?_
  refine z_isub (pc' := 16) X dX2_unitsByAccount_15 rfl ?_
  refine z_imul (pc' := 17) X dX2_unitsByAccount_16 rfl ?_
  refine z_aload_n (pc' := 18) X dX2_unitsByAccount_17 rfl rfl ?_
  refine z_get1 (pc' := 21) (kf := 8) X in_X2 rfl (by decide) q228 (Or.inl rfl) hX.stA rfl dX2_unitsByAccount_18 rfl ?_
  refine z_isub (pc' := 22) X dX2_unitsByAccount_21 rfl ?_
  refine z_iret1 X dX2_unitsByAccount_22 (Nat.le_of_ble_eq_true rfl) (Nat.le_of_ble_eq_true rfl) ?_
  exact ⟨by rw [← Ta], rfl⟩
end ZS1

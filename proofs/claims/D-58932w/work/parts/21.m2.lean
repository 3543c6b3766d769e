/-! THE MODEL: more methods -/
section M2
theorem mulb {a b A B : Int} (ha : 0 ≤ a ∧ a ≤ A) (hb : 0 ≤ b ∧ b ≤ B) : 0 ≤ a * b ∧ a * b ≤ A * B :=
  ⟨Int.mul_nonneg ha.1 hb.1, Int.mul_le_mul ha.2 hb.2 hb.1 (Int.le_trans ha.1 ha.2)⟩
def mZ (z : Int) : Int := if z = 0 then 1 else if z = 1 then 2 else 4
theorem mZ_b (z : Int) : 1 ≤ mZ z ∧ mZ z ≤ 4 := by
  unfold mZ
  (repeat' split) <;> omega
theorem mZ_sh {z : Int} (hz : 0 ≤ z ∧ z ≤ 2) : jI 1 <<< (jI z &&& 31) = jI (mZ z) := by
  obtain rfl | rfl | rfl : z = 0 ∨ z = 1 ∨ z = 2 := by omega
  all_goals decide
def mfill (M : MM) (r : Nat) (a k z : Int) : MM := fun r' j => if r' = r ∧ a ≤ j ∧ j < a + k then z else M r' j
theorem mfill_0 {M : MM} {r : Nat} {a z : Int} : mfill M r a 0 z = M := by
  funext r' j
  unfold mfill
  rw [if_neg (by omega)]
theorem mfill_s {M : MM} {r : Nat} {a k z : Int} (hk : 0 ≤ k) : mset (mfill M r a k z) r (a + k) z = mfill M r a (k + 1) z := by
  funext r' j
  by_cases h : r' ≠ r ∨ j ≠ a + k
  · rw [mset_n h]
    unfold mfill
    by_cases h2 : r' = r ∧ a ≤ j ∧ j < a + k
    · rw [if_pos h2, if_pos ⟨h2.1, h2.2.1, by omega⟩]
    · rw [if_neg h2, if_neg (fun q => h2 ⟨q.1, q.2.1, by rcases h with h | h <;> omega⟩)]
  · have h1 : r' = r := Classical.byContradiction fun q => h (Or.inl q)
    have h2 : j = a + k := Classical.byContradiction fun q => h (Or.inr q)
    subst h1 h2
    rw [mset_s]
    unfold mfill
    rw [if_pos ⟨rfl, by omega, by omega⟩]
/-- n places of row r1 from a on, copied to row r2 from b on -/
def mcopy (M : MM) (r1 : Nat) (a : Int) (r2 : Nat) (b n : Int) : MM := fun r j => if r = r2 ∧ b ≤ j ∧ j < b + n then M r1 (a + (j - b)) else M r j
theorem mcopy_0 {M : MM} {r1 r2 : Nat} {a b : Int} : mcopy M r1 a r2 b 0 = M := by
  funext r' j
  unfold mcopy
  rw [if_neg (by omega)]
theorem mcopy_r {M : MM} {r1 r2 r : Nat} {a b n : Int} (h : r ≠ r2) : mcopy M r1 a r2 b n r = M r := by
  funext j
  unfold mcopy
  rw [if_neg (fun q => h q.1)]
theorem mcopy_s {M : MM} {r1 r2 : Nat} {a b n : Int} (hn : 0 ≤ n) : mset (mcopy M r1 a r2 b n) r2 (b + n) (M r1 (a + n)) = mcopy M r1 a r2 b (n + 1) := by
  funext r' j
  by_cases h : r' ≠ r2 ∨ j ≠ b + n
  · rw [mset_n h]
    unfold mcopy
    by_cases h2 : r' = r2 ∧ b ≤ j ∧ j < b + n
    · rw [if_pos h2, if_pos ⟨h2.1, h2.2.1, by omega⟩]
    · rw [if_neg h2, if_neg (fun q => h2 ⟨q.1, q.2.1, by rcases h with h | h <;> omega⟩)]
  · have h1 : r' = r2 := Classical.byContradiction fun q => h (Or.inl q)
    have h2 : j = b + n := Classical.byContradiction fun q => h (Or.inr q)
    subst h1 h2
    rw [mset_s]
    unfold mcopy
    rw [if_pos ⟨rfl, by omega, by omega⟩, show a + (b + n - b) = a + n by omega]
theorem mcopy_in {M : MM} {r1 r2 : Nat} {a b n j : Int} (h : b ≤ j ∧ j < b + n) : mcopy M r1 a r2 b n r2 j = M r1 (a + (j - b)) := if_pos ⟨rfl, h⟩
theorem mcopy_out {M : MM} {r1 r2 : Nat} {a b n j : Int} (h : j < b ∨ b + n ≤ j) : mcopy M r1 a r2 b n r2 j = M r2 j := if_neg (fun q => by omega)
/-- the first c places of row r moved down by w, from e on -/
def mdown (M : MM) (r : Nat) (e w c : Int) : MM := fun r' j => if r' = r ∧ e ≤ j ∧ j < e + c then M r (j + w) else M r' j
theorem mdown_0 {M : MM} {r : Nat} {e w : Int} : mdown M r e w 0 = M := by
  funext r' j
  unfold mdown
  rw [if_neg (by omega)]
theorem mdown_s {M : MM} {r : Nat} {e w c : Int} (hc : 0 ≤ c) (hw : 0 ≤ w) : mset (mdown M r e w c) r (e + c) (mdown M r e w c r (e + c + w)) = mdown M r e w (c + 1) := by
  have e1 : mdown M r e w c r (e + c + w) = M r (e + c + w) := if_neg (by omega)
  rw [e1]
  funext r' j
  by_cases h : r' ≠ r ∨ j ≠ e + c
  · rw [mset_n h]
    unfold mdown
    by_cases h2 : r' = r ∧ e ≤ j ∧ j < e + c
    · rw [if_pos h2, if_pos ⟨h2.1, h2.2.1, by omega⟩]
    · rw [if_neg h2, if_neg (fun q => h2 ⟨q.1, q.2.1, by rcases h with h | h <;> omega⟩)]
  · have h1 : r' = r := Classical.byContradiction fun q => h (Or.inl q)
    have h2 : j = e + c := Classical.byContradiction fun q => h (Or.inr q)
    subst h1 h2
    rw [mset_s]
    unfold mdown
    rw [if_pos ⟨rfl, by omega, by omega⟩]
theorem Y_X8_lay : zYV yX8_lay cX8_lay 4 none 3 := ⟨⟨q2164, qs51, q132, q2165⟩, by decide +kernel, by decide⟩
set_option maxRecDepth 100000 in
theorem c_X8_lay (l : Launch) (g : zG) (ma : Nat → Nat) (M : MM) (p w z : Int) (hp : 0 ≤ p ∧ p < 24) (hw : 0 ≤ w ∧ w < 4) (hz : rng z) : mVoid l yX8_lay cX8_lay 4 1 [vR (ma 0), vI p, vI w, vI z] g ma M (fun M' => M' = mset M 1 (21 + 4 * p + w) z) := by
  refine mVoid.mk (L0 := [some (vR (ma 0)), some (vI p), some (vI w), some (vI z)]) (by decide) rfl (Nat.le_of_ble_eq_true rfl) rfl (fun C h hg hl hR X => ?_)
  subst hg hl
  refine z_aload_n (pc' := 1) X dX8_lay_0 rfl rfl ?_
  refine z_mget (pc' := 4) X 0 rfl (by decide) q2063 rfl dX8_lay_1 rfl ?_
  refine z_bipush (pc' := 6) X dX8_lay_4 rfl (by decide) ?_
  refine z_iconst (pc' := 7) X dX8_lay_6 rfl ?_
  refine z_iload_n (pc' := 8) X dX8_lay_7 rfl rfl ?_
  refine z_imul (pc' := 9) X dX8_lay_8 rfl ?_
  refine z_iadd (pc' := 10) X dX8_lay_9 rfl ?_
  refine z_iload_n (pc' := 11) X dX8_lay_10 rfl rfl ?_
  refine z_iadd (pc' := 12) X dX8_lay_11 rfl ?_
  refine z_iload_n (pc' := 13) X dX8_lay_12 rfl rfl ?_
  refine z_mst (pc' := 14) X (r := 1) (by decide) (show 0 ≤ _ ∧ _ < (321 : Int) by omega) (by first | assumption | omega) dX8_lay_13 rfl (fun hR13 => ?_)
  refine z_return X dX8_lay_14 (Nat.le_refl _) (Nat.le_refl _) (fun _ hh => ⟨_, hh, rfl, ?_⟩)
  · first | rfl | omega
def mWhyIn (M : MM) (c w z : Int) : Int := if M 1 4 = 24 then 1 else if M 1 3 < z then 2 else if 300 < mDebt M c + mToll M c w then 3 else 0
theorem Y_X8_whyNot : zYV yX8_whyNot cX8_whyNot 4 (some .int) 3 := ⟨⟨q2137, qs45, q132, q2138⟩, by decide +kernel, by decide⟩
set_option maxRecDepth 100000 in
theorem c_X8_whyNot (l : Launch) (g : zG) (ma : Nat → Nat) (M : MM) (c w z : Int) (hc : 0 ≤ c ∧ c < 4) (hw : 10 ≤ w ∧ w ≤ 300) (hz : rng z) (hI : mI M) : mFun l yX8_whyNot cX8_whyNot 4 (some .int) 3 [vR (ma 0), vI c, vI w, vI z] g ma M (fun r => r = mWhyIn M c w z) := by
  refine mFun.mk (L0 := [some (vR (ma 0)), some (vI c), some (vI w), some (vI z)]) (by decide) rfl (Nat.le_of_ble_eq_true rfl) rfl (fun C h hg hl hR X => ?_)
  subst hg hl
  have hI1 := mI_n hI
  have hI2 := mI_s hI
  have hI3 := mI_c hI hc
  have hI4 := mToll_b (M := M) (c := c) hw
  refine z_aload_n (pc' := 1) X dX8_whyNot_0 rfl rfl ?_
  refine z_mget (pc' := 4) X 0 rfl (by decide) q2063 rfl dX8_whyNot_1 rfl ?_
  refine z_iconst (pc' := 5) X dX8_whyNot_4 rfl ?_
  refine z_mld (pc' := 6) X (r := 1) (by decide) (show 0 ≤ _ ∧ _ < (321 : Int) by omega) dX8_whyNot_5 rfl (fun hv5 => ?_)
  refine z_bipush (pc' := 8) X dX8_whyNot_6 rfl (by decide) ?_
  refine z_icmp_ne (tgt := 13) (pc' := 11) X (by first | assumption | omega) (by first | assumption | omega) dX8_whyNot_8 rfl (by decide) (fun c8 => ?_) (fun c8 => ?_)
  · refine z_iload_n (pc' := 14) X dX8_whyNot_13 rfl rfl ?_
    refine z_aload_n (pc' := 15) X dX8_whyNot_14 rfl rfl ?_
    refine z_mget (pc' := 18) X 0 rfl (by decide) q2063 rfl dX8_whyNot_15 rfl ?_
    refine z_iconst (pc' := 19) X dX8_whyNot_18 rfl ?_
    refine z_mld (pc' := 20) X (r := 1) (by decide) (show 0 ≤ _ ∧ _ < (321 : Int) by omega) dX8_whyNot_19 rfl (fun hv19 => ?_)
    refine z_icmp_le (tgt := 27) (pc' := 23) X (by first | assumption | omega) (by first | assumption | omega) dX8_whyNot_20 rfl (by decide) (fun c20 => ?_) (fun c20 => ?_)
    · refine z_aload_n (pc' := 28) X dX8_whyNot_27 rfl rfl ?_
      refine z_iload_n (pc' := 29) X dX8_whyNot_28 rfl rfl ?_
      refine z_V_fun1 (pc' := 32) X rfl Y_X8_debt q2139 dX8_whyNot_29 rfl (by decide) (Nat.le_refl _) (Nat.le_refl _) (Nat.le_of_ble_eq_true rfl) (c_X8_debt _ _ _ _ _ (by first | assumption | omega)) (fun r29 hr29 hp29 => ?_)
      subst hp29
      refine z_aload_n (pc' := 33) X dX8_whyNot_32 rfl rfl ?_
      refine z_iload_n (pc' := 34) X dX8_whyNot_33 rfl rfl ?_
      refine z_iload_n (pc' := 35) X dX8_whyNot_34 rfl rfl ?_
      refine z_V_fun2 (pc' := 38) X rfl Y_X8_toll q2143 dX8_whyNot_35 rfl (by decide) (Nat.le_refl _) (Nat.le_refl _) (Nat.le_of_ble_eq_true rfl) (c_X8_toll _ _ _ _ _ _ (by first | assumption | omega) (by first | assumption | omega)) (fun r35 hr35 hp35 => ?_)
      subst hp35
      refine z_iadd (pc' := 39) X dX8_whyNot_38 rfl ?_
      refine z_sipush (pc' := 42) X dX8_whyNot_39 rfl (by decide) ?_
      refine z_icmp_le (tgt := 49) (pc' := 45) X (by first | assumption | omega) (by first | assumption | omega) dX8_whyNot_42 rfl (by decide) (fun c42 => ?_) (fun c42 => ?_)
      · refine z_iconst (pc' := 50) X dX8_whyNot_49 rfl ?_
        refine z_ireturn X dX8_whyNot_50 (Nat.le_refl _) (Nat.le_refl _) (fun _ hh => ⟨hh, _, rfl, ?_, ?_⟩)
        · first | assumption | omega
        · unfold mWhyIn; (repeat' split) <;> omega
      · refine z_iconst (pc' := 46) X dX8_whyNot_45 rfl ?_
        refine z_goto (tgt := 50) X dX8_whyNot_46 (by decide) ?_
        refine z_ireturn X dX8_whyNot_50 (Nat.le_refl _) (Nat.le_refl _) (fun _ hh => ⟨hh, _, rfl, ?_, ?_⟩)
        · first | assumption | omega
        · unfold mWhyIn; (repeat' split) <;> omega
    · refine z_iconst (pc' := 24) X dX8_whyNot_23 rfl ?_
      refine z_goto (tgt := 50) X dX8_whyNot_24 (by decide) ?_
      refine z_ireturn X dX8_whyNot_50 (Nat.le_refl _) (Nat.le_refl _) (fun _ hh => ⟨hh, _, rfl, ?_, ?_⟩)
      · first | assumption | omega
      · unfold mWhyIn; (repeat' split) <;> omega
  · refine z_iconst (pc' := 12) X dX8_whyNot_11 rfl ?_
    refine z_ireturn X dX8_whyNot_12 (Nat.le_refl _) (Nat.le_refl _) (fun _ hh => ⟨hh, _, rfl, ?_, ?_⟩)
    · first | assumption | omega
    · unfold mWhyIn; (repeat' split) <;> omega
def mRags (w z : Int) : Int := w * (100 - z) / 100
theorem mRags_b {w z : Int} (hw : 10 ≤ w ∧ w ≤ 300) (hz : 0 ≤ z ∧ z ≤ 99) : (0 ≤ w * (100 - z) ∧ w * (100 - z) ≤ 30000) ∧ 0 ≤ mRags w z ∧ mRags w z ≤ 300 := by
  have h := mulb (a := w) (b := 100 - z) (A := 300) (B := 100) (by omega) (by omega)
  unfold mRags
  omega
def mBaleIn (M : MM) (p s r z : Int) : MM := mset (mset (mset (mset M 1 (21 + 4 * p + 0) s) 1 (21 + 4 * p + 1) r) 1 (21 + 4 * p + 2) z) 1 (21 + 4 * p + 3) 0
theorem Y_X8_comes : zYV yX8_comes cX8_comes 7 (some .int) 4 := ⟨⟨q2160, qs50, q132, q2161⟩, by decide +kernel, by decide⟩
set_option maxRecDepth 100000 in
theorem c_X8_comes (l : Launch) (g : zG) (ma : Nat → Nat) (M : MM) (c s w z : Int) (hc : 0 ≤ c ∧ c < 4) (hs : 0 ≤ s ∧ s ≤ 3) (hw : 10 ≤ w ∧ w ≤ 300) (hz : 0 ≤ z ∧ z ≤ 99) (hb : 0 ≤ M 1 4 ∧ M 1 4 < 24) (hd : 0 ≤ mDebt M c ∧ mDebt M c ≤ 300) : mInt l yX8_comes cX8_comes 7 (some .int) 3 [vR (ma 0), vI c, vI s, vI w, vI z] g ma M (fun r M' => (mRags w z = 0 ∧ r = -1 ∧ M' = mset M 1 (13 + 2 * c) (mDebt M c + mToll M c w)) ∨ (mRags w z ≠ 0 ∧ r = M 1 4 ∧ M' = mset (mBaleIn (mset M 1 (13 + 2 * c) (mDebt M c + mToll M c w)) (M 1 4) s (mRags w z) z) 1 4 (M 1 4 + 1))) := by
  refine mInt.mk (L0 := [some (vR (ma 0)), some (vI c), some (vI s), some (vI w), some (vI z), none, none]) (by decide) rfl (Nat.le_of_ble_eq_true rfl) rfl (fun C h hg hl hR X => ?_)
  subst hg hl
  have hT := mToll_b (M := M) (c := c) hw
  obtain ⟨hG1, hG2⟩ := mRags_b hw hz
  unfold mDebt at hd
  refine z_aload_n (pc' := 1) X dX8_comes_0 rfl rfl ?_
  refine z_mget (pc' := 4) X 0 rfl (by decide) q2063 rfl dX8_comes_1 rfl ?_
  refine z_bipush (pc' := 6) X dX8_comes_4 rfl (by decide) ?_
  refine z_iconst (pc' := 7) X dX8_comes_6 rfl ?_
  refine z_iload_n (pc' := 8) X dX8_comes_7 rfl rfl ?_
  refine z_imul (pc' := 9) X dX8_comes_8 rfl ?_
  refine z_iadd (pc' := 10) X dX8_comes_9 rfl ?_
  refine z_dup2 (pc' := 11) X rfl rfl dX8_comes_10 rfl ?_
  refine z_mld (pc' := 12) X (r := 1) (by decide) (show 0 ≤ _ ∧ _ < (321 : Int) by omega) dX8_comes_11 rfl (fun hv11 => ?_)
  refine z_aload_n (pc' := 13) X dX8_comes_12 rfl rfl ?_
  refine z_iload_n (pc' := 14) X dX8_comes_13 rfl rfl ?_
  refine z_iload_n (pc' := 15) X dX8_comes_14 rfl rfl ?_
  refine z_V_fun2 (pc' := 18) X rfl Y_X8_toll q2143 dX8_comes_15 rfl (by decide) (Nat.le_refl _) (Nat.le_refl _) (Nat.le_of_ble_eq_true rfl) (c_X8_toll _ _ _ _ _ _ (by first | assumption | omega) (by first | assumption | omega)) (fun r15 hr15 hp15 => ?_)
  subst hp15
  refine z_iadd (pc' := 19) X dX8_comes_18 rfl ?_
  refine z_mst (pc' := 20) X (r := 1) (by decide) (show 0 ≤ _ ∧ _ < (321 : Int) by omega) (by first | assumption | omega) dX8_comes_19 rfl (fun hR19 => ?_)
  refine z_iload_n (pc' := 21) X dX8_comes_20 rfl rfl ?_
  refine z_bipush (pc' := 23) X dX8_comes_21 rfl (by decide) ?_
  refine z_iload (pc' := 25) X dX8_comes_23 rfl rfl ?_
  refine z_isub (pc' := 26) X dX8_comes_25 rfl ?_
  refine z_imul (pc' := 27) X dX8_comes_26 rfl ?_
  refine z_bipush (pc' := 29) X dX8_comes_27 rfl (by decide) ?_
  refine z_idivp (pc' := 30) X (by first | assumption | omega) (by decide) dX8_comes_29 rfl ?_
  refine z_istore (pc' := 32) X dX8_comes_30 rfl (by decide) rfl ?_
  dsimp only [List.set]
  refine z_iload (pc' := 34) X dX8_comes_32 rfl rfl ?_
  change 0 ≤ w * (100 - z) / 100 ∧ w * (100 - z) / 100 ≤ 300 at hG2
  refine z_if_ne (tgt := 39) (pc' := 37) X (by first | assumption | omega) dX8_comes_34 rfl (by decide) (fun c34 => ?_) (fun c34 => ?_)
  · refine z_aload_n (pc' := 40) X dX8_comes_39 rfl rfl ?_
    refine z_mget (pc' := 43) X 0 rfl (by decide) q2063 rfl dX8_comes_40 rfl ?_
    refine z_iconst (pc' := 44) X dX8_comes_43 rfl ?_
    refine z_mld (pc' := 45) X (r := 1) (by decide) (show 0 ≤ _ ∧ _ < (321 : Int) by omega) dX8_comes_44 rfl (fun hv44 => ?_)
    have e44 : mset M 1 (13 + 2 * c) (M 1 (13 + 2 * c) + mToll M c w) 1 4 = M 1 4 := mset_k (by omega)
    rw [e44]
    rw [e44] at hv44
    refine z_istore (pc' := 47) X dX8_comes_45 rfl (by decide) rfl ?_
    dsimp only [List.set]
    refine z_aload_n (pc' := 48) X dX8_comes_47 rfl rfl ?_
    refine z_iload (pc' := 50) X dX8_comes_48 rfl rfl ?_
    refine z_iconst (pc' := 51) X dX8_comes_50 rfl ?_
    refine z_iload_n (pc' := 52) X dX8_comes_51 rfl rfl ?_
    refine z_V_void3 (pc' := 55) X rfl Y_X8_lay q2162 dX8_comes_52 rfl (by decide) (Nat.le_refl _) (Nat.le_refl _) (Nat.le_of_ble_eq_true rfl) (c_X8_lay _ _ _ _ _ _ _ (by first | assumption | omega) (by first | assumption | omega) (by first | assumption | omega)) (fun M52 hp52 hR52 => ?_)
    subst hp52
    refine z_aload_n (pc' := 56) X dX8_comes_55 rfl rfl ?_
    refine z_iload (pc' := 58) X dX8_comes_56 rfl rfl ?_
    refine z_iconst (pc' := 59) X dX8_comes_58 rfl ?_
    refine z_iload (pc' := 61) X dX8_comes_59 rfl rfl ?_
    refine z_V_void3 (pc' := 64) X rfl Y_X8_lay q2162 dX8_comes_61 rfl (by decide) (Nat.le_refl _) (Nat.le_refl _) (Nat.le_of_ble_eq_true rfl) (c_X8_lay _ _ _ _ _ _ _ (by first | assumption | omega) (by first | assumption | omega) (by first | assumption | omega)) (fun M61 hp61 hR61 => ?_)
    subst hp61
    refine z_aload_n (pc' := 65) X dX8_comes_64 rfl rfl ?_
    refine z_iload (pc' := 67) X dX8_comes_65 rfl rfl ?_
    refine z_iconst (pc' := 68) X dX8_comes_67 rfl ?_
    refine z_iload (pc' := 70) X dX8_comes_68 rfl rfl ?_
    refine z_V_void3 (pc' := 73) X rfl Y_X8_lay q2162 dX8_comes_70 rfl (by decide) (Nat.le_refl _) (Nat.le_refl _) (Nat.le_of_ble_eq_true rfl) (c_X8_lay _ _ _ _ _ _ _ (by first | assumption | omega) (by first | assumption | omega) (by first | assumption | omega)) (fun M70 hp70 hR70 => ?_)
    subst hp70
    refine z_aload_n (pc' := 74) X dX8_comes_73 rfl rfl ?_
    refine z_iload (pc' := 76) X dX8_comes_74 rfl rfl ?_
    refine z_iconst (pc' := 77) X dX8_comes_76 rfl ?_
    refine z_iconst (pc' := 78) X dX8_comes_77 rfl ?_
    refine z_V_void3 (pc' := 81) X rfl Y_X8_lay q2162 dX8_comes_78 rfl (by decide) (Nat.le_refl _) (Nat.le_refl _) (Nat.le_of_ble_eq_true rfl) (c_X8_lay _ _ _ _ _ _ _ (by first | assumption | omega) (by first | assumption | omega) (by first | assumption | omega)) (fun M78 hp78 hR78 => ?_)
    subst hp78
    refine z_aload_n (pc' := 82) X dX8_comes_81 rfl rfl ?_
    refine z_mget (pc' := 85) X 0 rfl (by decide) q2063 rfl dX8_comes_82 rfl ?_
    refine z_iconst (pc' := 86) X dX8_comes_85 rfl ?_
    refine z_dup2 (pc' := 87) X rfl rfl dX8_comes_86 rfl ?_
    refine z_mld (pc' := 88) X (r := 1) (by decide) (show 0 ≤ _ ∧ _ < (321 : Int) by omega) dX8_comes_87 rfl (fun hv87 => ?_)
    have e87 : (mset (mset (mset (mset (mset M 1 (13 + 2 * c) (M 1 (13 + 2 * c) + mToll M c w)) 1 (21 + 4 * M 1 4 + 0) s) 1 (21 + 4 * M 1 4 + 1) (w * (100 - z) / 100)) 1 (21 + 4 * M 1 4 + 2) z) 1 (21 + 4 * M 1 4 + 3) 0) 1 4 = M 1 4 := by rw [mset_k (by omega), mset_k (by omega), mset_k (by omega), mset_k (by omega), mset_k (by omega)]
    rw [e87]
    rw [e87] at hv87
    refine z_iconst (pc' := 89) X dX8_comes_88 rfl ?_
    refine z_iadd (pc' := 90) X dX8_comes_89 rfl ?_
    refine z_mst (pc' := 91) X (r := 1) (by decide) (show 0 ≤ _ ∧ _ < (321 : Int) by omega) (by first | assumption | omega) dX8_comes_90 rfl (fun hR90 => ?_)
    refine z_iload (pc' := 93) X dX8_comes_91 rfl rfl ?_
    refine z_ireturn X dX8_comes_93 (Nat.le_refl _) (Nat.le_refl _) (fun _ hh => ⟨_, hh, _, rfl, ?_, ?_⟩)
    · first | assumption | omega
    · right; exact ⟨c34, rfl, rfl⟩
  · refine z_iconst (pc' := 38) X dX8_comes_37 rfl ?_
    refine z_ireturn X dX8_comes_38 (Nat.le_refl _) (Nat.le_refl _) (fun _ hh => ⟨_, hh, _, rfl, ?_, ?_⟩)
    · first | assumption | omega
    · left; exact ⟨c34, rfl, rfl⟩
def goodM (M : MM) (s : Int) : Int := zsum (fun j => if mB M j 0 = s ∧ mB M j 3 ≠ -1 then mB M j 1 else 0) (M 1 4)
theorem Y_X8_good : zYV yX8_good cX8_good 4 (some .int) 1 := ⟨⟨q2230, qs59, q132, q2231⟩, by decide +kernel, by decide⟩
set_option maxRecDepth 100000 in
theorem c_X8_good (l : Launch) (g : zG) (ma : Nat → Nat) (M : MM) (s : Int) (hs : rng s) (hI : mI M) : mFun l yX8_good cX8_good 4 (some .int) 3 [vR (ma 0), vI s] g ma M (fun r => r = goodM M s) := by
  refine mFun.mk (L0 := [some (vR (ma 0)), some (vI s), none, none]) (by decide) rfl (Nat.le_of_ble_eq_true rfl) rfl (fun C h hg hl hR X => ?_)
  subst hg hl
  have hI1 := mI_n hI
  refine z_iconst (pc' := 1) X dX8_good_0 rfl ?_
  refine z_istore_n (pc' := 2) X dX8_good_1 rfl (by decide) rfl ?_
  dsimp only [List.set]
  refine z_iconst (pc' := 3) X dX8_good_2 rfl ?_
  refine z_istore_n (pc' := 4) X dX8_good_3 rfl (by decide) rfl ?_
  dsimp only [List.set]
  have loop4 : ∀ (N : Nat) (k t : Int), (0 ≤ k ∧ k ≤ M 1 4) → (t = zsum (fun j => if mB M j 0 = s ∧ mB M j 3 ≠ -1 then mB M j 1 else 0) k) → (0 ≤ t ∧ t ≤ 300 * k) → (M 1 4 - k).toNat < N → ZP C 4 (mF ma h (M)) 0 0 [some (vR (ma 0)), some (vI s), some (vI t), some (vI k)] 4 [] := by
    intro N
    induction N with
    | zero => intro k t hk ht hb hN; exact absurd hN (Nat.not_lt_zero _)
    | succ N ih4 =>
      intro k t hk ht hb hN
      refine ZP.fact (P := mR (M)) (fun _ h => h.1.2.2.2) (fun hR4 => ?_)
      refine z_iload_n (pc' := 5) X dX8_good_4 rfl rfl ?_
      refine z_aload_n (pc' := 6) X dX8_good_5 rfl rfl ?_
      refine z_mget (pc' := 9) X 0 rfl (by decide) q2063 rfl dX8_good_6 rfl ?_
      refine z_iconst (pc' := 10) X dX8_good_9 rfl ?_
      refine z_mld (pc' := 11) X (r := 1) (by decide) (show 0 ≤ _ ∧ _ < (321 : Int) by omega) dX8_good_10 rfl (fun hv10 => ?_)
      refine z_icmp_ge (tgt := 51) (pc' := 14) X (by first | assumption | omega) (by first | assumption | omega) dX8_good_11 rfl (by decide) (fun c11 => ?_) (fun c11 => ?_)
      · refine z_iload_n (pc' := 52) X dX8_good_51 rfl rfl ?_
        refine z_ireturn X dX8_good_52 (Nat.le_refl _) (Nat.le_refl _) (fun _ hh => ⟨hh, _, rfl, ?_, ?_⟩)
        · first | assumption | omega
        · rw [ht, show k = M 1 4 by omega]; rfl
      · have hb14 := mI_b hI (p := k) (by omega)
        have hB0 := mB_R hR k 0
        have hB1 := mB_R hR k 1
        refine z_iload_n (pc' := 15) X dX8_good_14 rfl rfl ?_
        refine z_aload_n (pc' := 16) X dX8_good_15 rfl rfl ?_
        refine z_iload_n (pc' := 17) X dX8_good_16 rfl rfl ?_
        refine z_iconst (pc' := 18) X dX8_good_17 rfl ?_
        refine z_V_fun2 (pc' := 21) X rfl Y_X8_bale q2194 dX8_good_18 rfl (by decide) (Nat.le_refl _) (Nat.le_refl _) (Nat.le_of_ble_eq_true rfl) (c_X8_bale _ _ _ _ _ _ (by first | assumption | omega) (by first | assumption | omega)) (fun r18 hr18 hp18 => ?_)
        subst hp18
        refine z_iload_n (pc' := 22) X dX8_good_21 rfl rfl ?_
        refine z_icmp_ne (tgt := 42) (pc' := 25) X (by first | assumption | omega) (by first | assumption | omega) dX8_good_22 rfl (by decide) (fun c22 => ?_) (fun c22 => ?_)
        · refine z_iconst (pc' := 43) X dX8_good_42 rfl ?_
          refine z_iadd (pc' := 44) X dX8_good_43 rfl ?_
          refine z_istore_n (pc' := 45) X dX8_good_44 rfl (by decide) rfl ?_
          dsimp only [List.set]
          refine z_iinc (pc' := 48) X dX8_good_45 rfl (by decide) rfl rfl ?_
          dsimp only [List.set]
          refine z_goto (tgt := 4) X dX8_good_48 (by decide) ?_
          refine ZP.wk (L' := [some (vR (ma 0)), some (vI s), some (vI _), some (vI _)]) (And.intro rfl (And.intro rfl (And.intro rfl (And.intro rfl (trivial))))) ?_
          exact ih4 _ _ (by omega) (by rw [zsum_s hk.1, ← ht]; (first | rw [if_pos ⟨by omega, by omega⟩] | rw [if_neg (by omega)])) (by omega) (by omega)
        · refine z_aload_n (pc' := 26) X dX8_good_25 rfl rfl ?_
          refine z_iload_n (pc' := 27) X dX8_good_26 rfl rfl ?_
          refine z_V_fun1 (pc' := 30) X rfl Y_X8_isMouldy q2232 dX8_good_27 rfl (by decide) (Nat.le_refl _) (Nat.le_refl _) (Nat.le_of_ble_eq_true rfl) (c_X8_isMouldy _ _ _ _ _ (by first | assumption | omega)) (fun r27 hr27 hp27 => ?_)
          refine z_if_ne (tgt := 42) (pc' := 33) X (by first | assumption | omega) dX8_good_30 rfl (by decide) (fun c30 => ?_) (fun c30 => ?_)
          · refine z_iconst (pc' := 43) X dX8_good_42 rfl ?_
            refine z_iadd (pc' := 44) X dX8_good_43 rfl ?_
            refine z_istore_n (pc' := 45) X dX8_good_44 rfl (by decide) rfl ?_
            dsimp only [List.set]
            refine z_iinc (pc' := 48) X dX8_good_45 rfl (by decide) rfl rfl ?_
            dsimp only [List.set]
            refine z_goto (tgt := 4) X dX8_good_48 (by decide) ?_
            refine ZP.wk (L' := [some (vR (ma 0)), some (vI s), some (vI _), some (vI _)]) (And.intro rfl (And.intro rfl (And.intro rfl (And.intro rfl (trivial))))) ?_
            exact ih4 _ _ (by omega) (by rw [zsum_s hk.1, ← ht]; (first | rw [if_pos ⟨by omega, by omega⟩] | rw [if_neg (by omega)])) (by omega) (by omega)
          · refine z_aload_n (pc' := 34) X dX8_good_33 rfl rfl ?_
            refine z_iload_n (pc' := 35) X dX8_good_34 rfl rfl ?_
            refine z_iconst (pc' := 36) X dX8_good_35 rfl ?_
            refine z_V_fun2 (pc' := 39) X rfl Y_X8_bale q2194 dX8_good_36 rfl (by decide) (Nat.le_refl _) (Nat.le_refl _) (Nat.le_of_ble_eq_true rfl) (c_X8_bale _ _ _ _ _ _ (by first | assumption | omega) (by first | assumption | omega)) (fun r36 hr36 hp36 => ?_)
            subst hp36
            refine z_goto (tgt := 43) X dX8_good_39 (by decide) ?_
            refine z_iadd (pc' := 44) X dX8_good_43 rfl ?_
            refine z_istore_n (pc' := 45) X dX8_good_44 rfl (by decide) rfl ?_
            dsimp only [List.set]
            refine z_iinc (pc' := 48) X dX8_good_45 rfl (by decide) rfl rfl ?_
            dsimp only [List.set]
            refine z_goto (tgt := 4) X dX8_good_48 (by decide) ?_
            refine ZP.wk (L' := [some (vR (ma 0)), some (vI s), some (vI _), some (vI _)]) (And.intro rfl (And.intro rfl (And.intro rfl (And.intro rfl (trivial))))) ?_
            exact ih4 _ _ (by omega) (by rw [zsum_s hk.1, ← ht]; (first | rw [if_pos ⟨by omega, by omega⟩] | rw [if_neg (by omega)])) (by omega) (by omega)
  refine ZP.wk (L' := [some (vR (ma 0)), some (vI s), some (vI _), some (vI _)]) (And.intro rfl (And.intro rfl (And.intro rfl (And.intro rfl (trivial))))) ?_
  exact loop4 _ _ _ (by omega) (by exact (zsum_0 _).symm) (by omega) (Nat.lt_succ_self _)
theorem Y_X8_isEmptied : zYV yX8_isEmptied cX8_isEmptied 3 none 1 := ⟨⟨q2264, qs64, q132, q2265⟩, by decide +kernel, by decide⟩
set_option maxRecDepth 100000 in
theorem c_X8_isEmptied (l : Launch) (g : zG) (ma : Nat → Nat) (M : MM) (v : Int) (hv : 0 ≤ v ∧ v < 3) : mVoid l yX8_isEmptied cX8_isEmptied 3 1 [vR (ma 0), vI v] g ma M (fun M' => M' = mfill M 1 (117 + 3 * v) 3 0) := by
  refine mVoid.mk (L0 := [some (vR (ma 0)), some (vI v), none]) (by decide) rfl (Nat.le_of_ble_eq_true rfl) rfl (fun C h hg hl hR X => ?_)
  subst hg hl
  refine z_iconst (pc' := 1) X dX8_isEmptied_0 rfl ?_
  refine z_istore_n (pc' := 2) X dX8_isEmptied_1 rfl (by decide) rfl ?_
  dsimp only [List.set]
  have loop2 : ∀ (N : Nat) (k : Int), (0 ≤ k ∧ k ≤ 3) → (3 - k).toNat < N → ZP C 3 (mF ma h (mfill M 1 (117 + 3 * v) k 0)) 0 0 [some (vR (ma 0)), some (vI v), some (vI k)] 2 [] := by
    intro N
    induction N with
    | zero => intro k hk hN; exact absurd hN (Nat.not_lt_zero _)
    | succ N ih2 =>
      intro k hk hN
      refine ZP.fact (P := mR (mfill M 1 (117 + 3 * v) k 0)) (fun _ h => h.1.2.2.2) (fun hR2 => ?_)
      refine z_iload_n (pc' := 3) X dX8_isEmptied_2 rfl rfl ?_
      refine z_iconst (pc' := 4) X dX8_isEmptied_3 rfl ?_
      refine z_icmp_ge (tgt := 27) (pc' := 7) X (by first | assumption | omega) (by first | assumption | omega) dX8_isEmptied_4 rfl (by decide) (fun c4 => ?_) (fun c4 => ?_)
      · refine z_return X dX8_isEmptied_27 (Nat.le_refl _) (Nat.le_refl _) (fun _ hh => ⟨_, hh, rfl, ?_⟩)
        · rw [show k = 3 by omega]
      · refine z_aload_n (pc' := 8) X dX8_isEmptied_7 rfl rfl ?_
        refine z_mget (pc' := 11) X 0 rfl (by decide) q2063 rfl dX8_isEmptied_8 rfl ?_
        refine z_bipush (pc' := 13) X dX8_isEmptied_11 rfl (by decide) ?_
        refine z_iconst (pc' := 14) X dX8_isEmptied_13 rfl ?_
        refine z_iload_n (pc' := 15) X dX8_isEmptied_14 rfl rfl ?_
        refine z_imul (pc' := 16) X dX8_isEmptied_15 rfl ?_
        refine z_iadd (pc' := 17) X dX8_isEmptied_16 rfl ?_
        refine z_iload_n (pc' := 18) X dX8_isEmptied_17 rfl rfl ?_
        refine z_iadd (pc' := 19) X dX8_isEmptied_18 rfl ?_
        refine z_iconst (pc' := 20) X dX8_isEmptied_19 rfl ?_
        refine z_mst (pc' := 21) X (r := 1) (by decide) (show 0 ≤ _ ∧ _ < (321 : Int) by omega) (by first | assumption | omega) dX8_isEmptied_20 rfl (fun hR20 => ?_)
        refine z_iinc (pc' := 24) X dX8_isEmptied_21 rfl (by decide) rfl rfl ?_
        dsimp only [List.set]
        refine z_goto (tgt := 2) X dX8_isEmptied_24 (by decide) ?_
        rw [mfill_s (by omega)]
        refine ZP.wk (L' := [some (vR (ma 0)), some (vI v), some (vI _)]) (And.intro rfl (And.intro rfl (And.intro rfl (trivial)))) ?_
        exact ih2 _ (by omega) (by omega)
  rw [← mfill_0 (M := M) (r := 1) (a := 117 + 3 * v) (z := 0)]
  refine ZP.wk (L' := [some (vR (ma 0)), some (vI v), some (vI _)]) (And.intro rfl (And.intro rfl (And.intro rfl (trivial)))) ?_
  exact loop2 _ _ (by omega) (Nat.lt_succ_self _)
def mPts (M : MM) (v m : Int) : Int := mV M v 2 + (if mV M v 1 ≤ 24 then mV M v 1 else 48 - mV M v 1) - mMo M m 1 / 100
theorem mPts_b {M : MM} (h : mI M) {v m : Int} (hv : 0 ≤ v ∧ v < 3) (hm : 0 ≤ m ∧ m < 5) : -20 ≤ mPts M v m ∧ mPts M v m ≤ 84 := by
  have h1 := mI_v h hv
  have h2 := mI_m h hm
  unfold mPts
  split <;> omega
theorem Y_X8_unitsBy : zYS yX8_unitsBy cX8_unitsBy 1 (some .int) 1 := ⟨⟨q2297, q132, q2298⟩, by decide +kernel, by decide⟩
set_option maxRecDepth 100000 in
theorem c_X8_unitsBy (l : Launch) (g : zG) (h : GH) (z : Int) (hz : 0 ≤ z ∧ z ≤ 2) : zFun l yX8_unitsBy cX8_unitsBy 1 (some .int) 1 [vI z] g h (fun r => r = mZ z) := by
  refine zFun.mk (L0 := [some (vI z)]) (by decide) rfl (Nat.le_of_ble_eq_true rfl) rfl (fun C hg hl X => ?_)
  subst hg hl
  have hzb := mZ_b z
  refine z_iconst (pc' := 1) X dX8_unitsBy_0 rfl ?_
  refine z_iload_n (pc' := 2) X dX8_unitsBy_1 rfl rfl ?_
  refine z_ishl (pc' := 3) (r := mZ z) X (mZ_sh hz) dX8_unitsBy_2 rfl ?_
  refine z_ireturn X dX8_unitsBy_3 (Nat.le_refl _) (Nat.le_refl _) (fun _ hh => ⟨hh, _, rfl, ?_, ?_⟩)
  · first | assumption | omega
  · first | rfl | omega
theorem Y_X8_points : zYV yX8_points cX8_points 4 (some .int) 2 := ⟨⟨q2301, qs68, q132, q2302⟩, by decide +kernel, by decide⟩
set_option maxRecDepth 100000 in
theorem c_X8_points (l : Launch) (g : zG) (ma : Nat → Nat) (M : MM) (v m : Int) (hv : 0 ≤ v ∧ v < 3) (hm : 0 ≤ m ∧ m < 5) (hI : mI M) : mFun l yX8_points cX8_points 4 (some .int) 2 [vR (ma 0), vI v, vI m] g ma M (fun r => r = mPts M v m) := by
  refine mFun.mk (L0 := [some (vR (ma 0)), some (vI v), some (vI m), none]) (by decide) rfl (Nat.le_of_ble_eq_true rfl) rfl (fun C h hg hl hR X => ?_)
  subst hg hl
  have hI1 := mI_v hI hv
  have hI2 := mI_m hI hm
  unfold mV at hI1
  refine z_aload_n (pc' := 1) X dX8_points_0 rfl rfl ?_
  refine z_mget (pc' := 4) X 0 rfl (by decide) q2063 rfl dX8_points_1 rfl ?_
  refine z_bipush (pc' := 6) X dX8_points_4 rfl (by decide) ?_
  refine z_iconst (pc' := 7) X dX8_points_6 rfl ?_
  refine z_iload_n (pc' := 8) X dX8_points_7 rfl rfl ?_
  refine z_imul (pc' := 9) X dX8_points_8 rfl ?_
  refine z_iadd (pc' := 10) X dX8_points_9 rfl ?_
  refine z_iconst (pc' := 11) X dX8_points_10 rfl ?_
  refine z_iadd (pc' := 12) X dX8_points_11 rfl ?_
  refine z_mld (pc' := 13) X (r := 1) (by decide) (show 0 ≤ _ ∧ _ < (321 : Int) by omega) dX8_points_12 rfl (fun hv12 => ?_)
  refine z_istore_n (pc' := 14) X dX8_points_13 rfl (by decide) rfl ?_
  dsimp only [List.set]
  refine z_aload_n (pc' := 15) X dX8_points_14 rfl rfl ?_
  refine z_mget (pc' := 18) X 0 rfl (by decide) q2063 rfl dX8_points_15 rfl ?_
  refine z_bipush (pc' := 20) X dX8_points_18 rfl (by decide) ?_
  refine z_iconst (pc' := 21) X dX8_points_20 rfl ?_
  refine z_iload_n (pc' := 22) X dX8_points_21 rfl rfl ?_
  refine z_imul (pc' := 23) X dX8_points_22 rfl ?_
  refine z_iadd (pc' := 24) X dX8_points_23 rfl ?_
  refine z_iconst (pc' := 25) X dX8_points_24 rfl ?_
  refine z_iadd (pc' := 26) X dX8_points_25 rfl ?_
  refine z_mld (pc' := 27) X (r := 1) (by decide) (show 0 ≤ _ ∧ _ < (321 : Int) by omega) dX8_points_26 rfl (fun hv26 => ?_)
  refine z_iload_n (pc' := 28) X dX8_points_27 rfl rfl ?_
  refine z_bipush (pc' := 30) X dX8_points_28 rfl (by decide) ?_
  refine z_icmp_gt (tgt := 37) (pc' := 33) X (by first | assumption | omega) (by first | assumption | omega) dX8_points_30 rfl (by decide) (fun c30 => ?_) (fun c30 => ?_)
  · refine z_bipush (pc' := 39) X dX8_points_37 rfl (by decide) ?_
    refine z_iload_n (pc' := 40) X dX8_points_39 rfl rfl ?_
    refine z_isub (pc' := 41) X dX8_points_40 rfl ?_
    refine z_iadd (pc' := 42) X dX8_points_41 rfl ?_
    refine z_aload_n (pc' := 43) X dX8_points_42 rfl rfl ?_
    refine z_iload_n (pc' := 44) X dX8_points_43 rfl rfl ?_
    refine z_V_fun1 (pc' := 47) X rfl Y_X8_wear q2281 dX8_points_44 rfl (by decide) (Nat.le_refl _) (Nat.le_refl _) (Nat.le_of_ble_eq_true rfl) (c_X8_wear _ _ _ _ _ (by first | assumption | omega)) (fun r44 hr44 hp44 => ?_)
    subst hp44
    refine z_bipush (pc' := 49) X dX8_points_47 rfl (by decide) ?_
    refine z_idivp (pc' := 50) X (by first | assumption | omega) (by decide) dX8_points_49 rfl ?_
    refine z_isub (pc' := 51) X dX8_points_50 rfl ?_
    refine z_ireturn X dX8_points_51 (Nat.le_refl _) (Nat.le_refl _) (fun _ hh => ⟨hh, _, rfl, ?_, ?_⟩)
    · first | assumption | omega
    · unfold mPts mV; split <;> omega
  · refine z_iload_n (pc' := 34) X dX8_points_33 rfl rfl ?_
    refine z_goto (tgt := 41) X dX8_points_34 (by decide) ?_
    refine z_iadd (pc' := 42) X dX8_points_41 rfl ?_
    refine z_aload_n (pc' := 43) X dX8_points_42 rfl rfl ?_
    refine z_iload_n (pc' := 44) X dX8_points_43 rfl rfl ?_
    refine z_V_fun1 (pc' := 47) X rfl Y_X8_wear q2281 dX8_points_44 rfl (by decide) (Nat.le_refl _) (Nat.le_refl _) (Nat.le_of_ble_eq_true rfl) (c_X8_wear _ _ _ _ _ (by first | assumption | omega)) (fun r44 hr44 hp44 => ?_)
    subst hp44
    refine z_bipush (pc' := 49) X dX8_points_47 rfl (by decide) ?_
    refine z_idivp (pc' := 50) X (by first | assumption | omega) (by decide) dX8_points_49 rfl ?_
    refine z_isub (pc' := 51) X dX8_points_50 rfl ?_
    refine z_ireturn X dX8_points_51 (Nat.le_refl _) (Nat.le_refl _) (fun _ hh => ⟨hh, _, rfl, ?_, ?_⟩)
    · first | assumption | omega
    · unfold mPts mV; split <;> omega
def mWhyS (M : MM) (v m n : Int) : Int := if mU M v = 0 then 1 else if mU M v < n * mZ (m % 3) then 2 else if 2000 < mMo M m 1 + n then 3 else if M 1 5 = 12 then 4 else if mPts M v m < 30 then 5 else 0
theorem Y_X8_whyNoSheets : zYV yX8_whyNoSheets cX8_whyNoSheets 4 (some .int) 3 := ⟨⟨q2294, qs67, q132, q2295⟩, by decide +kernel, by decide⟩
set_option maxRecDepth 100000 in
theorem c_X8_whyNoSheets (l : Launch) (g : zG) (ma : Nat → Nat) (M : MM) (v m n : Int) (hv : 0 ≤ v ∧ v < 3) (hm : 0 ≤ m ∧ m < 5) (hn : 1 ≤ n ∧ n ≤ 480) (hI : mI M) : mFun l yX8_whyNoSheets cX8_whyNoSheets 4 (some .int) 3 [vR (ma 0), vI v, vI m, vI n] g ma M (fun r => r = mWhyS M v m n) := by
  refine mFun.mk (L0 := [some (vR (ma 0)), some (vI v), some (vI m), some (vI n)]) (by decide) rfl (Nat.le_of_ble_eq_true rfl) rfl (fun C h hg hl hR X => ?_)
  subst hg hl
  have hI1 := mI_v hI hv
  have hI2 := mI_m hI hm
  have hI3 := mI_n hI
  have hI4 := mPts_b hI hv hm
  have hZ := mZ_b (m % 3)
  have hnz := mulb (a := n) (b := mZ (m % 3)) (A := 480) (B := 4) (by omega) (by omega)
  refine z_aload_n (pc' := 1) X dX8_whyNoSheets_0 rfl rfl ?_
  refine z_iload_n (pc' := 2) X dX8_whyNoSheets_1 rfl rfl ?_
  refine z_V_fun1 (pc' := 5) X rfl Y_X8_units q2220 dX8_whyNoSheets_2 rfl (by decide) (Nat.le_refl _) (Nat.le_refl _) (Nat.le_of_ble_eq_true rfl) (c_X8_units _ _ _ _ _ (by first | assumption | omega)) (fun r2 hr2 hp2 => ?_)
  subst hp2
  refine z_if_ne (tgt := 10) (pc' := 8) X (by first | assumption | omega) dX8_whyNoSheets_5 rfl (by decide) (fun c5 => ?_) (fun c5 => ?_)
  · refine z_aload_n (pc' := 11) X dX8_whyNoSheets_10 rfl rfl ?_
    refine z_iload_n (pc' := 12) X dX8_whyNoSheets_11 rfl rfl ?_
    refine z_V_fun1 (pc' := 15) X rfl Y_X8_units q2220 dX8_whyNoSheets_12 rfl (by decide) (Nat.le_refl _) (Nat.le_refl _) (Nat.le_of_ble_eq_true rfl) (c_X8_units _ _ _ _ _ (by first | assumption | omega)) (fun r12 hr12 hp12 => ?_)
    subst hp12
    refine z_iload_n (pc' := 16) X dX8_whyNoSheets_15 rfl rfl ?_
    refine z_iload_n (pc' := 17) X dX8_whyNoSheets_16 rfl rfl ?_
    refine z_iconst (pc' := 18) X dX8_whyNoSheets_17 rfl ?_
    refine z_iremp (pc' := 19) X (by first | assumption | omega) (by decide) dX8_whyNoSheets_18 rfl ?_
    refine z_S_fun1 (pc' := 22) X Y_X8_unitsBy q2296 dX8_whyNoSheets_19 rfl (by decide) (Nat.le_refl _) (Nat.le_refl _) (Nat.le_of_ble_eq_true rfl) (fun h _ => c_X8_unitsBy _ _ _ _ (by first | assumption | omega)) (fun r19 hr19 hp19 => ?_)
    subst hp19
    refine z_imul (pc' := 23) X dX8_whyNoSheets_22 rfl ?_
    refine z_icmp_ge (tgt := 28) (pc' := 26) X (by first | assumption | omega) (by first | assumption | omega) dX8_whyNoSheets_23 rfl (by decide) (fun c23 => ?_) (fun c23 => ?_)
    · refine z_aload_n (pc' := 29) X dX8_whyNoSheets_28 rfl rfl ?_
      refine z_iload_n (pc' := 30) X dX8_whyNoSheets_29 rfl rfl ?_
      refine z_V_fun1 (pc' := 33) X rfl Y_X8_wear q2281 dX8_whyNoSheets_30 rfl (by decide) (Nat.le_refl _) (Nat.le_refl _) (Nat.le_of_ble_eq_true rfl) (c_X8_wear _ _ _ _ _ (by first | assumption | omega)) (fun r30 hr30 hp30 => ?_)
      subst hp30
      refine z_iload_n (pc' := 34) X dX8_whyNoSheets_33 rfl rfl ?_
      refine z_iadd (pc' := 35) X dX8_whyNoSheets_34 rfl ?_
      refine z_sipush (pc' := 38) X dX8_whyNoSheets_35 rfl (by decide) ?_
      refine z_icmp_le (tgt := 45) (pc' := 41) X (by first | assumption | omega) (by first | assumption | omega) dX8_whyNoSheets_38 rfl (by decide) (fun c38 => ?_) (fun c38 => ?_)
      · refine z_aload_n (pc' := 46) X dX8_whyNoSheets_45 rfl rfl ?_
        refine z_mget (pc' := 49) X 0 rfl (by decide) q2063 rfl dX8_whyNoSheets_46 rfl ?_
        refine z_iconst (pc' := 50) X dX8_whyNoSheets_49 rfl ?_
        refine z_mld (pc' := 51) X (r := 1) (by decide) (show 0 ≤ _ ∧ _ < (321 : Int) by omega) dX8_whyNoSheets_50 rfl (fun hv50 => ?_)
        refine z_bipush (pc' := 53) X dX8_whyNoSheets_51 rfl (by decide) ?_
        refine z_icmp_ne (tgt := 60) (pc' := 56) X (by first | assumption | omega) (by first | assumption | omega) dX8_whyNoSheets_53 rfl (by decide) (fun c53 => ?_) (fun c53 => ?_)
        · refine z_aload_n (pc' := 61) X dX8_whyNoSheets_60 rfl rfl ?_
          refine z_iload_n (pc' := 62) X dX8_whyNoSheets_61 rfl rfl ?_
          refine z_iload_n (pc' := 63) X dX8_whyNoSheets_62 rfl rfl ?_
          refine z_V_fun2 (pc' := 66) X rfl Y_X8_points q2299 dX8_whyNoSheets_63 rfl (by decide) (Nat.le_refl _) (Nat.le_refl _) (Nat.le_of_ble_eq_true rfl) (c_X8_points _ _ _ _ _ _ (by first | assumption | omega) (by first | assumption | omega) (by first | assumption | omega)) (fun r63 hr63 hp63 => ?_)
          subst hp63
          refine z_bipush (pc' := 68) X dX8_whyNoSheets_66 rfl (by decide) ?_
          refine z_icmp_ge (tgt := 75) (pc' := 71) X (by first | assumption | omega) (by first | assumption | omega) dX8_whyNoSheets_68 rfl (by decide) (fun c68 => ?_) (fun c68 => ?_)
          · refine z_iconst (pc' := 76) X dX8_whyNoSheets_75 rfl ?_
            refine z_ireturn X dX8_whyNoSheets_76 (Nat.le_refl _) (Nat.le_refl _) (fun _ hh => ⟨hh, _, rfl, ?_, ?_⟩)
            · first | assumption | omega
            · unfold mWhyS; (repeat' split) <;> omega
          · refine z_iconst (pc' := 72) X dX8_whyNoSheets_71 rfl ?_
            refine z_goto (tgt := 76) X dX8_whyNoSheets_72 (by decide) ?_
            refine z_ireturn X dX8_whyNoSheets_76 (Nat.le_refl _) (Nat.le_refl _) (fun _ hh => ⟨hh, _, rfl, ?_, ?_⟩)
            · first | assumption | omega
            · unfold mWhyS; (repeat' split) <;> omega
        · refine z_iconst (pc' := 57) X dX8_whyNoSheets_56 rfl ?_
          refine z_goto (tgt := 76) X dX8_whyNoSheets_57 (by decide) ?_
          refine z_ireturn X dX8_whyNoSheets_76 (Nat.le_refl _) (Nat.le_refl _) (fun _ hh => ⟨hh, _, rfl, ?_, ?_⟩)
          · first | assumption | omega
          · unfold mWhyS; (repeat' split) <;> omega
      · refine z_iconst (pc' := 42) X dX8_whyNoSheets_41 rfl ?_
        refine z_goto (tgt := 76) X dX8_whyNoSheets_42 (by decide) ?_
        refine z_ireturn X dX8_whyNoSheets_76 (Nat.le_refl _) (Nat.le_refl _) (fun _ hh => ⟨hh, _, rfl, ?_, ?_⟩)
        · first | assumption | omega
        · unfold mWhyS; (repeat' split) <;> omega
    · refine z_iconst (pc' := 27) X dX8_whyNoSheets_26 rfl ?_
      refine z_ireturn X dX8_whyNoSheets_27 (Nat.le_refl _) (Nat.le_refl _) (fun _ hh => ⟨hh, _, rfl, ?_, ?_⟩)
      · first | assumption | omega
      · unfold mWhyS; (repeat' split) <;> omega
  · refine z_iconst (pc' := 9) X dX8_whyNoSheets_8 rfl ?_
    refine z_ireturn X dX8_whyNoSheets_9 (Nat.le_refl _) (Nat.le_refl _) (fun _ hh => ⟨hh, _, rfl, ?_, ?_⟩)
    · first | assumption | omega
    · unfold mWhyS; (repeat' split) <;> omega
theorem Y_X8_isSuch : zYV yX8_isSuch cX8_isSuch 5 (some .boolean) 4 := ⟨⟨q2324, qs72, q132, q2325⟩, by decide +kernel, by decide⟩
set_option maxRecDepth 100000 in
theorem c_X8_isSuch (l : Launch) (g : zG) (ma : Nat → Nat) (M : MM) (p a b c : Int) (hp : 0 ≤ p ∧ p < 12) (ha : rng a) (hb : rng b) (hc : rng c) : mFun l yX8_isSuch cX8_isSuch 5 (some .boolean) 2 [vR (ma 0), vI p, vI a, vI b, vI c] g ma M (fun r => (r = 1 ∧ ((mP M p 0 = a ∧ mP M p 1 = b ∧ mP M p 2 = c ∧ 3 ≤ mP M p 4))) ∨ (r = 0 ∧ ¬ ((mP M p 0 = a ∧ mP M p 1 = b ∧ mP M p 2 = c ∧ 3 ≤ mP M p 4)))) := by
  refine mFun.mk (L0 := [some (vR (ma 0)), some (vI p), some (vI a), some (vI b), some (vI c)]) (by decide) rfl (Nat.le_of_ble_eq_true rfl) rfl (fun C h hg hl hR X => ?_)
  subst hg hl
  refine z_aload_n (pc' := 1) X dX8_isSuch_0 rfl rfl ?_
  refine z_iload_n (pc' := 2) X dX8_isSuch_1 rfl rfl ?_
  refine z_iconst (pc' := 3) X dX8_isSuch_2 rfl ?_
  refine z_V_fun2 (pc' := 6) X rfl Y_X8_pile q2326 dX8_isSuch_3 rfl (by decide) (Nat.le_refl _) (Nat.le_refl _) (Nat.le_of_ble_eq_true rfl) (c_X8_pile _ _ _ _ _ _ (by first | assumption | omega) (by first | assumption | omega)) (fun r3 hr3 hp3 => ?_)
  subst hp3
  refine z_iload_n (pc' := 7) X dX8_isSuch_6 rfl rfl ?_
  refine z_icmp_ne (tgt := 45) (pc' := 10) X (by first | assumption | omega) (by first | assumption | omega) dX8_isSuch_7 rfl (by decide) (fun c7 => ?_) (fun c7 => ?_)
  · refine z_iconst (pc' := 46) X dX8_isSuch_45 rfl ?_
    refine z_zreturn X dX8_isSuch_46 (by first | exact nar_0 | exact nar_1 | exact nar_b (by omega)) (Nat.le_refl _) (Nat.le_refl _) (fun _ hh => ⟨hh, _, rfl, ?_, ?_⟩)
    · first | assumption | omega
    · first | rfl | omega
  · refine z_aload_n (pc' := 11) X dX8_isSuch_10 rfl rfl ?_
    refine z_iload_n (pc' := 12) X dX8_isSuch_11 rfl rfl ?_
    refine z_iconst (pc' := 13) X dX8_isSuch_12 rfl ?_
    refine z_V_fun2 (pc' := 16) X rfl Y_X8_pile q2326 dX8_isSuch_13 rfl (by decide) (Nat.le_refl _) (Nat.le_refl _) (Nat.le_of_ble_eq_true rfl) (c_X8_pile _ _ _ _ _ _ (by first | assumption | omega) (by first | assumption | omega)) (fun r13 hr13 hp13 => ?_)
    subst hp13
    refine z_iload_n (pc' := 17) X dX8_isSuch_16 rfl rfl ?_
    refine z_icmp_ne (tgt := 45) (pc' := 20) X (by first | assumption | omega) (by first | assumption | omega) dX8_isSuch_17 rfl (by decide) (fun c17 => ?_) (fun c17 => ?_)
    · refine z_iconst (pc' := 46) X dX8_isSuch_45 rfl ?_
      refine z_zreturn X dX8_isSuch_46 (by first | exact nar_0 | exact nar_1 | exact nar_b (by omega)) (Nat.le_refl _) (Nat.le_refl _) (fun _ hh => ⟨hh, _, rfl, ?_, ?_⟩)
      · first | assumption | omega
      · first | rfl | omega
    · refine z_aload_n (pc' := 21) X dX8_isSuch_20 rfl rfl ?_
      refine z_iload_n (pc' := 22) X dX8_isSuch_21 rfl rfl ?_
      refine z_iconst (pc' := 23) X dX8_isSuch_22 rfl ?_
      refine z_V_fun2 (pc' := 26) X rfl Y_X8_pile q2326 dX8_isSuch_23 rfl (by decide) (Nat.le_refl _) (Nat.le_refl _) (Nat.le_of_ble_eq_true rfl) (c_X8_pile _ _ _ _ _ _ (by first | assumption | omega) (by first | assumption | omega)) (fun r23 hr23 hp23 => ?_)
      subst hp23
      refine z_iload (pc' := 28) X dX8_isSuch_26 rfl rfl ?_
      refine z_icmp_ne (tgt := 45) (pc' := 31) X (by first | assumption | omega) (by first | assumption | omega) dX8_isSuch_28 rfl (by decide) (fun c28 => ?_) (fun c28 => ?_)
      · refine z_iconst (pc' := 46) X dX8_isSuch_45 rfl ?_
        refine z_zreturn X dX8_isSuch_46 (by first | exact nar_0 | exact nar_1 | exact nar_b (by omega)) (Nat.le_refl _) (Nat.le_refl _) (fun _ hh => ⟨hh, _, rfl, ?_, ?_⟩)
        · first | assumption | omega
        · first | rfl | omega
      · refine z_aload_n (pc' := 32) X dX8_isSuch_31 rfl rfl ?_
        refine z_iload_n (pc' := 33) X dX8_isSuch_32 rfl rfl ?_
        refine z_iconst (pc' := 34) X dX8_isSuch_33 rfl ?_
        refine z_V_fun2 (pc' := 37) X rfl Y_X8_pile q2326 dX8_isSuch_34 rfl (by decide) (Nat.le_refl _) (Nat.le_refl _) (Nat.le_of_ble_eq_true rfl) (c_X8_pile _ _ _ _ _ _ (by first | assumption | omega) (by first | assumption | omega)) (fun r34 hr34 hp34 => ?_)
        subst hp34
        refine z_iconst (pc' := 38) X dX8_isSuch_37 rfl ?_
        refine z_icmp_lt (tgt := 45) (pc' := 41) X (by first | assumption | omega) (by first | assumption | omega) dX8_isSuch_38 rfl (by decide) (fun c38 => ?_) (fun c38 => ?_)
        · refine z_iconst (pc' := 46) X dX8_isSuch_45 rfl ?_
          refine z_zreturn X dX8_isSuch_46 (by first | exact nar_0 | exact nar_1 | exact nar_b (by omega)) (Nat.le_refl _) (Nat.le_refl _) (fun _ hh => ⟨hh, _, rfl, ?_, ?_⟩)
          · first | assumption | omega
          · first | rfl | omega
        · refine z_iconst (pc' := 42) X dX8_isSuch_41 rfl ?_
          refine z_goto (tgt := 46) X dX8_isSuch_42 (by decide) ?_
          refine z_zreturn X dX8_isSuch_46 (by first | exact nar_0 | exact nar_1 | exact nar_b (by omega)) (Nat.le_refl _) (Nat.le_refl _) (fun _ hh => ⟨hh, _, rfl, ?_, ?_⟩)
          · first | assumption | omega
          · first | rfl | omega
def dryM (M : MM) (a b c : Int) : Int := zsum (fun j => if (mP M j 0 = a ∧ mP M j 1 = b ∧ mP M j 2 = c ∧ 3 ≤ mP M j 4) then mP M j 3 else 0) (M 1 5)
theorem Y_X8_dry : zYV yX8_dry cX8_dry 6 (some .int) 3 := ⟨⟨q2320, qs71, q132, q2321⟩, by decide +kernel, by decide⟩
set_option maxRecDepth 100000 in
theorem c_X8_dry (l : Launch) (g : zG) (ma : Nat → Nat) (M : MM) (a b c : Int) (ha : rng a) (hb : rng b) (hc : rng c) (hI : mI M) : mFun l yX8_dry cX8_dry 6 (some .int) 3 [vR (ma 0), vI a, vI b, vI c] g ma M (fun r => r = dryM M a b c) := by
  refine mFun.mk (L0 := [some (vR (ma 0)), some (vI a), some (vI b), some (vI c), none, none]) (by decide) rfl (Nat.le_of_ble_eq_true rfl) rfl (fun C h hg hl hR X => ?_)
  subst hg hl
  have hI1 := mI_n hI
  refine z_iconst (pc' := 1) X dX8_dry_0 rfl ?_
  refine z_istore (pc' := 3) X dX8_dry_1 rfl (by decide) rfl ?_
  dsimp only [List.set]
  refine z_iconst (pc' := 4) X dX8_dry_3 rfl ?_
  refine z_istore (pc' := 6) X dX8_dry_4 rfl (by decide) rfl ?_
  dsimp only [List.set]
  have loop6 : ∀ (N : Nat) (t k : Int), (0 ≤ k ∧ k ≤ M 1 5) → (t = zsum (fun j => if (mP M j 0 = a ∧ mP M j 1 = b ∧ mP M j 2 = c ∧ 3 ≤ mP M j 4) then mP M j 3 else 0) k) → (0 ≤ t ∧ t ≤ 480 * k) → (M 1 5 - k).toNat < N → ZP C 6 (mF ma h (M)) 0 0 [some (vR (ma 0)), some (vI a), some (vI b), some (vI c), some (vI t), some (vI k)] 6 [] := by
    intro N
    induction N with
    | zero => intro t k hk ht hbt hN; exact absurd hN (Nat.not_lt_zero _)
    | succ N ih6 =>
      intro t k hk ht hbt hN
      refine ZP.fact (P := mR (M)) (fun _ h => h.1.2.2.2) (fun hR6 => ?_)
      refine z_iload (pc' := 8) X dX8_dry_6 rfl rfl ?_
      refine z_aload_n (pc' := 9) X dX8_dry_8 rfl rfl ?_
      refine z_mget (pc' := 12) X 0 rfl (by decide) q2063 rfl dX8_dry_9 rfl ?_
      refine z_iconst (pc' := 13) X dX8_dry_12 rfl ?_
      refine z_mld (pc' := 14) X (r := 1) (by decide) (show 0 ≤ _ ∧ _ < (321 : Int) by omega) dX8_dry_13 rfl (fun hv13 => ?_)
      refine z_icmp_ge (tgt := 51) (pc' := 17) X (by first | assumption | omega) (by first | assumption | omega) dX8_dry_14 rfl (by decide) (fun c14 => ?_) (fun c14 => ?_)
      · refine z_iload (pc' := 53) X dX8_dry_51 rfl rfl ?_
        refine z_ireturn X dX8_dry_53 (Nat.le_refl _) (Nat.le_refl _) (fun _ hh => ⟨hh, _, rfl, ?_, ?_⟩)
        · first | assumption | omega
        · rw [ht, show k = M 1 5 by omega]; rfl
      · have hb14 := mI_p hI (p := k) (by omega)
        refine z_iload (pc' := 19) X dX8_dry_17 rfl rfl ?_
        refine z_aload_n (pc' := 20) X dX8_dry_19 rfl rfl ?_
        refine z_iload (pc' := 22) X dX8_dry_20 rfl rfl ?_
        refine z_iload_n (pc' := 23) X dX8_dry_22 rfl rfl ?_
        refine z_iload_n (pc' := 24) X dX8_dry_23 rfl rfl ?_
        refine z_iload_n (pc' := 25) X dX8_dry_24 rfl rfl ?_
        refine z_V_fun4 (pc' := 28) X rfl Y_X8_isSuch q2322 dX8_dry_25 rfl (by decide) (Nat.le_refl _) (Nat.le_refl _) (Nat.le_of_ble_eq_true rfl) (c_X8_isSuch _ _ _ _ _ _ _ _ (by first | assumption | omega) (by first | assumption | omega) (by first | assumption | omega) (by first | assumption | omega)) (fun r25 hr25 hp25 => ?_)
        refine z_if_eq (tgt := 41) (pc' := 31) X (by first | assumption | omega) dX8_dry_28 rfl (by decide) (fun c28 => ?_) (fun c28 => ?_)
        · refine z_iconst (pc' := 42) X dX8_dry_41 rfl ?_
          refine z_iadd (pc' := 43) X dX8_dry_42 rfl ?_
          refine z_istore (pc' := 45) X dX8_dry_43 rfl (by decide) rfl ?_
          dsimp only [List.set]
          refine z_iinc (pc' := 48) X dX8_dry_45 rfl (by decide) rfl rfl ?_
          dsimp only [List.set]
          refine z_goto (tgt := 6) X dX8_dry_48 (by decide) ?_
          refine ZP.wk (L' := [some (vR (ma 0)), some (vI a), some (vI b), some (vI c), some (vI _), some (vI _)]) (And.intro rfl (And.intro rfl (And.intro rfl (And.intro rfl (And.intro rfl (And.intro rfl (trivial))))))) ?_
          exact ih6 _ _ (by omega) (by rw [zsum_s hk.1, ← ht]; (first | rw [if_pos (by omega)] | rw [if_neg (by omega)])) (by omega) (by omega)
        · refine z_aload_n (pc' := 32) X dX8_dry_31 rfl rfl ?_
          refine z_iload (pc' := 34) X dX8_dry_32 rfl rfl ?_
          refine z_iconst (pc' := 35) X dX8_dry_34 rfl ?_
          refine z_V_fun2 (pc' := 38) X rfl Y_X8_pile q2326 dX8_dry_35 rfl (by decide) (Nat.le_refl _) (Nat.le_refl _) (Nat.le_of_ble_eq_true rfl) (c_X8_pile _ _ _ _ _ _ (by first | assumption | omega) (by first | assumption | omega)) (fun r35 hr35 hp35 => ?_)
          subst hp35
          refine z_goto (tgt := 42) X dX8_dry_38 (by decide) ?_
          refine z_iadd (pc' := 43) X dX8_dry_42 rfl ?_
          refine z_istore (pc' := 45) X dX8_dry_43 rfl (by decide) rfl ?_
          dsimp only [List.set]
          refine z_iinc (pc' := 48) X dX8_dry_45 rfl (by decide) rfl rfl ?_
          dsimp only [List.set]
          refine z_goto (tgt := 6) X dX8_dry_48 (by decide) ?_
          refine ZP.wk (L' := [some (vR (ma 0)), some (vI a), some (vI b), some (vI c), some (vI _), some (vI _)]) (And.intro rfl (And.intro rfl (And.intro rfl (And.intro rfl (And.intro rfl (And.intro rfl (trivial))))))) ?_
          exact ih6 _ _ (by omega) (by rw [zsum_s hk.1, ← ht]; (first | rw [if_pos (by omega)] | rw [if_neg (by omega)])) (by omega) (by omega)
  refine ZP.wk (L' := [some (vR (ma 0)), some (vI a), some (vI b), some (vI c), some (vI _), some (vI _)]) (And.intro rfl (And.intro rfl (And.intro rfl (And.intro rfl (And.intro rfl (And.intro rfl (trivial))))))) ?_
  exact loop6 _ _ _ (by omega) (by exact (zsum_0 _).symm) (by omega) (Nat.lt_succ_self _)
theorem Y_X8_tollOf : zYV yX8_tollOf cX8_tollOf 2 (some .int) 1 := ⟨⟨q2352, qs77, q132, q2353⟩, by decide +kernel, by decide⟩
set_option maxRecDepth 100000 in
theorem c_X8_tollOf (l : Launch) (g : zG) (ma : Nat → Nat) (M : MM) (p : Int) (hp : 0 ≤ p ∧ p < 30) : mFun l yX8_tollOf cX8_tollOf 2 (some .int) 2 [vR (ma 0), vI p] g ma M (fun r => r = (if mRm M p 3 < 20 then 2 else 4)) := by
  refine mFun.mk (L0 := [some (vR (ma 0)), some (vI p)]) (by decide) rfl (Nat.le_of_ble_eq_true rfl) rfl (fun C h hg hl hR X => ?_)
  subst hg hl
  refine z_aload_n (pc' := 1) X dX8_tollOf_0 rfl rfl ?_
  refine z_iload_n (pc' := 2) X dX8_tollOf_1 rfl rfl ?_
  refine z_iconst (pc' := 3) X dX8_tollOf_2 rfl ?_
  refine z_V_fun2 (pc' := 6) X rfl Y_X8_ream q2354 dX8_tollOf_3 rfl (by decide) (Nat.le_refl _) (Nat.le_refl _) (Nat.le_of_ble_eq_true rfl) (c_X8_ream _ _ _ _ _ _ (by first | assumption | omega) (by first | assumption | omega)) (fun r3 hr3 hp3 => ?_)
  subst hp3
  refine z_bipush (pc' := 8) X dX8_tollOf_6 rfl (by decide) ?_
  refine z_icmp_ge (tgt := 15) (pc' := 11) X (by first | assumption | omega) (by first | assumption | omega) dX8_tollOf_8 rfl (by decide) (fun c8 => ?_) (fun c8 => ?_)
  · refine z_iconst (pc' := 16) X dX8_tollOf_15 rfl ?_
    refine z_ireturn X dX8_tollOf_16 (Nat.le_refl _) (Nat.le_refl _) (fun _ hh => ⟨hh, _, rfl, ?_, ?_⟩)
    · first | assumption | omega
    · (repeat' split) <;> omega
  · refine z_iconst (pc' := 12) X dX8_tollOf_11 rfl ?_
    refine z_goto (tgt := 16) X dX8_tollOf_12 (by decide) ?_
    refine z_ireturn X dX8_tollOf_16 (Nat.le_refl _) (Nat.le_refl _) (fun _ hh => ⟨hh, _, rfl, ?_, ?_⟩)
    · first | assumption | omega
    · (repeat' split) <;> omega
def mFull (z y : Int) : Int := if y = 0 then (if z = 0 then 90 else if z = 1 then 150 else 260) * 3 / 2 else if y = 1 then (if z = 0 then 90 else if z = 1 then 150 else 260) else (if z = 0 then 90 else if z = 1 then 150 else 260) / 2
def mPrice (M : MM) (p : Int) : Int := mFull (mRm M p 1) (mRm M p 2) * mRm M p 3 / 20
theorem Y_X8_price : zYV yX8_price cX8_price 6 (some .int) 1 := ⟨⟨q2360, qs79, q132, q2361⟩, by decide +kernel, by decide⟩
set_option maxRecDepth 100000 in
theorem c_X8_price (l : Launch) (g : zG) (ma : Nat → Nat) (M : MM) (p : Int) (hp : 0 ≤ p ∧ p < M 1 6) (hI : mI M) : mFun l yX8_price cX8_price 6 (some .int) 2 [vR (ma 0), vI p] g ma M (fun r => r = mPrice M p) := by
  refine mFun.mk (L0 := [some (vR (ma 0)), some (vI p), none, none, none, none]) (by decide) rfl (Nat.le_of_ble_eq_true rfl) rfl (fun C h hg hl hR X => ?_)
  subst hg hl
  have hI1 := mI_q hI hp
  have hI3 := mI_n hI
  refine z_aload_n (pc' := 1) X dX8_price_0 rfl rfl ?_
  refine z_iload_n (pc' := 2) X dX8_price_1 rfl rfl ?_
  refine z_iconst (pc' := 3) X dX8_price_2 rfl ?_
  refine z_V_fun2 (pc' := 6) X rfl Y_X8_ream q2354 dX8_price_3 rfl (by decide) (Nat.le_refl _) (Nat.le_refl _) (Nat.le_of_ble_eq_true rfl) (c_X8_ream _ _ _ _ _ _ (by first | assumption | omega) (by first | assumption | omega)) (fun r3 hr3 hp3 => ?_)
  subst hp3
  refine z_istore_n (pc' := 7) X dX8_price_6 rfl (by decide) rfl ?_
  dsimp only [List.set]
  refine z_aload_n (pc' := 8) X dX8_price_7 rfl rfl ?_
  refine z_iload_n (pc' := 9) X dX8_price_8 rfl rfl ?_
  refine z_iconst (pc' := 10) X dX8_price_9 rfl ?_
  refine z_V_fun2 (pc' := 13) X rfl Y_X8_ream q2354 dX8_price_10 rfl (by decide) (Nat.le_refl _) (Nat.le_refl _) (Nat.le_of_ble_eq_true rfl) (c_X8_ream _ _ _ _ _ _ (by first | assumption | omega) (by first | assumption | omega)) (fun r10 hr10 hp10 => ?_)
  subst hp10
  refine z_istore_n (pc' := 14) X dX8_price_13 rfl (by decide) rfl ?_
  dsimp only [List.set]
  refine z_iload_n (pc' := 15) X dX8_price_14 rfl rfl ?_
  refine z_if_ne (tgt := 23) (pc' := 18) X (by first | assumption | omega) dX8_price_15 rfl (by decide) (fun c15 => ?_) (fun c15 => ?_)
  · refine z_iload_n (pc' := 24) X dX8_price_23 rfl rfl ?_
    refine z_iconst (pc' := 25) X dX8_price_24 rfl ?_
    refine z_icmp_ne (tgt := 34) (pc' := 28) X (by first | assumption | omega) (by first | assumption | omega) dX8_price_25 rfl (by decide) (fun c25 => ?_) (fun c25 => ?_)
    · refine z_sipush (pc' := 37) X dX8_price_34 rfl (by decide) ?_
      refine z_istore (pc' := 39) X dX8_price_37 rfl (by decide) rfl ?_
      dsimp only [List.set]
      refine z_iload_n (pc' := 40) X dX8_price_39 rfl rfl ?_
      refine z_if_ne (tgt := 52) (pc' := 43) X (by first | assumption | omega) dX8_price_40 rfl (by decide) (fun c40 => ?_) (fun c40 => ?_)
      · refine z_iload_n (pc' := 53) X dX8_price_52 rfl rfl ?_
        refine z_iconst (pc' := 54) X dX8_price_53 rfl ?_
        refine z_icmp_ne (tgt := 62) (pc' := 57) X (by first | assumption | omega) (by first | assumption | omega) dX8_price_54 rfl (by decide) (fun c54 => ?_) (fun c54 => ?_)
        · refine z_iload (pc' := 64) X dX8_price_62 rfl rfl ?_
          refine z_iconst (pc' := 65) X dX8_price_64 rfl ?_
          refine z_idivp (pc' := 66) X (by first | assumption | omega) (by decide) dX8_price_65 rfl ?_
          refine z_istore (pc' := 68) X dX8_price_66 rfl (by decide) rfl ?_
          dsimp only [List.set]
          refine z_iload (pc' := 70) X dX8_price_68 rfl rfl ?_
          refine z_aload_n (pc' := 71) X dX8_price_70 rfl rfl ?_
          refine z_iload_n (pc' := 72) X dX8_price_71 rfl rfl ?_
          refine z_iconst (pc' := 73) X dX8_price_72 rfl ?_
          refine z_V_fun2 (pc' := 76) X rfl Y_X8_ream q2354 dX8_price_73 rfl (by decide) (Nat.le_refl _) (Nat.le_refl _) (Nat.le_of_ble_eq_true rfl) (c_X8_ream _ _ _ _ _ _ (by first | assumption | omega) (by first | assumption | omega)) (fun r73 hr73 hp73 => ?_)
          subst hp73
          refine z_imul (pc' := 77) X dX8_price_76 rfl ?_
          refine z_bipush (pc' := 79) X dX8_price_77 rfl (by decide) ?_
          refine z_idivp (pc' := 80) X (by first | assumption | omega) (by decide) dX8_price_79 rfl ?_
          refine z_ireturn X dX8_price_80 (Nat.le_refl _) (Nat.le_refl _) (fun _ hh => ⟨hh, _, rfl, ?_, ?_⟩)
          · first | assumption | omega
          · unfold mPrice mFull; (repeat' split) <;> omega
        · refine z_iload (pc' := 59) X dX8_price_57 rfl rfl ?_
          refine z_goto (tgt := 66) X dX8_price_59 (by decide) ?_
          refine z_istore (pc' := 68) X dX8_price_66 rfl (by decide) rfl ?_
          dsimp only [List.set]
          refine z_iload (pc' := 70) X dX8_price_68 rfl rfl ?_
          refine z_aload_n (pc' := 71) X dX8_price_70 rfl rfl ?_
          refine z_iload_n (pc' := 72) X dX8_price_71 rfl rfl ?_
          refine z_iconst (pc' := 73) X dX8_price_72 rfl ?_
          refine z_V_fun2 (pc' := 76) X rfl Y_X8_ream q2354 dX8_price_73 rfl (by decide) (Nat.le_refl _) (Nat.le_refl _) (Nat.le_of_ble_eq_true rfl) (c_X8_ream _ _ _ _ _ _ (by first | assumption | omega) (by first | assumption | omega)) (fun r73 hr73 hp73 => ?_)
          subst hp73
          refine z_imul (pc' := 77) X dX8_price_76 rfl ?_
          refine z_bipush (pc' := 79) X dX8_price_77 rfl (by decide) ?_
          refine z_idivp (pc' := 80) X (by first | assumption | omega) (by decide) dX8_price_79 rfl ?_
          refine z_ireturn X dX8_price_80 (Nat.le_refl _) (Nat.le_refl _) (fun _ hh => ⟨hh, _, rfl, ?_, ?_⟩)
          · first | assumption | omega
          · unfold mPrice mFull; (repeat' split) <;> omega
      · refine z_iload (pc' := 45) X dX8_price_43 rfl rfl ?_
        refine z_iconst (pc' := 46) X dX8_price_45 rfl ?_
        refine z_imul (pc' := 47) X dX8_price_46 rfl ?_
        refine z_iconst (pc' := 48) X dX8_price_47 rfl ?_
        refine z_idivp (pc' := 49) X (by first | assumption | omega) (by decide) dX8_price_48 rfl ?_
        refine z_goto (tgt := 66) X dX8_price_49 (by decide) ?_
        refine z_istore (pc' := 68) X dX8_price_66 rfl (by decide) rfl ?_
        dsimp only [List.set]
        refine z_iload (pc' := 70) X dX8_price_68 rfl rfl ?_
        refine z_aload_n (pc' := 71) X dX8_price_70 rfl rfl ?_
        refine z_iload_n (pc' := 72) X dX8_price_71 rfl rfl ?_
        refine z_iconst (pc' := 73) X dX8_price_72 rfl ?_
        refine z_V_fun2 (pc' := 76) X rfl Y_X8_ream q2354 dX8_price_73 rfl (by decide) (Nat.le_refl _) (Nat.le_refl _) (Nat.le_of_ble_eq_true rfl) (c_X8_ream _ _ _ _ _ _ (by first | assumption | omega) (by first | assumption | omega)) (fun r73 hr73 hp73 => ?_)
        subst hp73
        refine z_imul (pc' := 77) X dX8_price_76 rfl ?_
        refine z_bipush (pc' := 79) X dX8_price_77 rfl (by decide) ?_
        refine z_idivp (pc' := 80) X (by first | assumption | omega) (by decide) dX8_price_79 rfl ?_
        refine z_ireturn X dX8_price_80 (Nat.le_refl _) (Nat.le_refl _) (fun _ hh => ⟨hh, _, rfl, ?_, ?_⟩)
        · first | assumption | omega
        · unfold mPrice mFull; (repeat' split) <;> omega
    · refine z_sipush (pc' := 31) X dX8_price_28 rfl (by decide) ?_
      refine z_goto (tgt := 37) X dX8_price_31 (by decide) ?_
      refine z_istore (pc' := 39) X dX8_price_37 rfl (by decide) rfl ?_
      dsimp only [List.set]
      refine z_iload_n (pc' := 40) X dX8_price_39 rfl rfl ?_
      refine z_if_ne (tgt := 52) (pc' := 43) X (by first | assumption | omega) dX8_price_40 rfl (by decide) (fun c40 => ?_) (fun c40 => ?_)
      · refine z_iload_n (pc' := 53) X dX8_price_52 rfl rfl ?_
        refine z_iconst (pc' := 54) X dX8_price_53 rfl ?_
        refine z_icmp_ne (tgt := 62) (pc' := 57) X (by first | assumption | omega) (by first | assumption | omega) dX8_price_54 rfl (by decide) (fun c54 => ?_) (fun c54 => ?_)
        · refine z_iload (pc' := 64) X dX8_price_62 rfl rfl ?_
          refine z_iconst (pc' := 65) X dX8_price_64 rfl ?_
          refine z_idivp (pc' := 66) X (by first | assumption | omega) (by decide) dX8_price_65 rfl ?_
          refine z_istore (pc' := 68) X dX8_price_66 rfl (by decide) rfl ?_
          dsimp only [List.set]
          refine z_iload (pc' := 70) X dX8_price_68 rfl rfl ?_
          refine z_aload_n (pc' := 71) X dX8_price_70 rfl rfl ?_
          refine z_iload_n (pc' := 72) X dX8_price_71 rfl rfl ?_
          refine z_iconst (pc' := 73) X dX8_price_72 rfl ?_
          refine z_V_fun2 (pc' := 76) X rfl Y_X8_ream q2354 dX8_price_73 rfl (by decide) (Nat.le_refl _) (Nat.le_refl _) (Nat.le_of_ble_eq_true rfl) (c_X8_ream _ _ _ _ _ _ (by first | assumption | omega) (by first | assumption | omega)) (fun r73 hr73 hp73 => ?_)
          subst hp73
          refine z_imul (pc' := 77) X dX8_price_76 rfl ?_
          refine z_bipush (pc' := 79) X dX8_price_77 rfl (by decide) ?_
          refine z_idivp (pc' := 80) X (by first | assumption | omega) (by decide) dX8_price_79 rfl ?_
          refine z_ireturn X dX8_price_80 (Nat.le_refl _) (Nat.le_refl _) (fun _ hh => ⟨hh, _, rfl, ?_, ?_⟩)
          · first | assumption | omega
          · unfold mPrice mFull; (repeat' split) <;> omega
        · refine z_iload (pc' := 59) X dX8_price_57 rfl rfl ?_
          refine z_goto (tgt := 66) X dX8_price_59 (by decide) ?_
          refine z_istore (pc' := 68) X dX8_price_66 rfl (by decide) rfl ?_
          dsimp only [List.set]
          refine z_iload (pc' := 70) X dX8_price_68 rfl rfl ?_
          refine z_aload_n (pc' := 71) X dX8_price_70 rfl rfl ?_
          refine z_iload_n (pc' := 72) X dX8_price_71 rfl rfl ?_
          refine z_iconst (pc' := 73) X dX8_price_72 rfl ?_
          refine z_V_fun2 (pc' := 76) X rfl Y_X8_ream q2354 dX8_price_73 rfl (by decide) (Nat.le_refl _) (Nat.le_refl _) (Nat.le_of_ble_eq_true rfl) (c_X8_ream _ _ _ _ _ _ (by first | assumption | omega) (by first | assumption | omega)) (fun r73 hr73 hp73 => ?_)
          subst hp73
          refine z_imul (pc' := 77) X dX8_price_76 rfl ?_
          refine z_bipush (pc' := 79) X dX8_price_77 rfl (by decide) ?_
          refine z_idivp (pc' := 80) X (by first | assumption | omega) (by decide) dX8_price_79 rfl ?_
          refine z_ireturn X dX8_price_80 (Nat.le_refl _) (Nat.le_refl _) (fun _ hh => ⟨hh, _, rfl, ?_, ?_⟩)
          · first | assumption | omega
          · unfold mPrice mFull; (repeat' split) <;> omega
      · refine z_iload (pc' := 45) X dX8_price_43 rfl rfl ?_
        refine z_iconst (pc' := 46) X dX8_price_45 rfl ?_
        refine z_imul (pc' := 47) X dX8_price_46 rfl ?_
        refine z_iconst (pc' := 48) X dX8_price_47 rfl ?_
        refine z_idivp (pc' := 49) X (by first | assumption | omega) (by decide) dX8_price_48 rfl ?_
        refine z_goto (tgt := 66) X dX8_price_49 (by decide) ?_
        refine z_istore (pc' := 68) X dX8_price_66 rfl (by decide) rfl ?_
        dsimp only [List.set]
        refine z_iload (pc' := 70) X dX8_price_68 rfl rfl ?_
        refine z_aload_n (pc' := 71) X dX8_price_70 rfl rfl ?_
        refine z_iload_n (pc' := 72) X dX8_price_71 rfl rfl ?_
        refine z_iconst (pc' := 73) X dX8_price_72 rfl ?_
        refine z_V_fun2 (pc' := 76) X rfl Y_X8_ream q2354 dX8_price_73 rfl (by decide) (Nat.le_refl _) (Nat.le_refl _) (Nat.le_of_ble_eq_true rfl) (c_X8_ream _ _ _ _ _ _ (by first | assumption | omega) (by first | assumption | omega)) (fun r73 hr73 hp73 => ?_)
        subst hp73
        refine z_imul (pc' := 77) X dX8_price_76 rfl ?_
        refine z_bipush (pc' := 79) X dX8_price_77 rfl (by decide) ?_
        refine z_idivp (pc' := 80) X (by first | assumption | omega) (by decide) dX8_price_79 rfl ?_
        refine z_ireturn X dX8_price_80 (Nat.le_refl _) (Nat.le_refl _) (fun _ hh => ⟨hh, _, rfl, ?_, ?_⟩)
        · first | assumption | omega
        · unfold mPrice mFull; (repeat' split) <;> omega
  · refine z_bipush (pc' := 20) X dX8_price_18 rfl (by decide) ?_
    refine z_goto (tgt := 37) X dX8_price_20 (by decide) ?_
    refine z_istore (pc' := 39) X dX8_price_37 rfl (by decide) rfl ?_
    dsimp only [List.set]
    refine z_iload_n (pc' := 40) X dX8_price_39 rfl rfl ?_
    refine z_if_ne (tgt := 52) (pc' := 43) X (by first | assumption | omega) dX8_price_40 rfl (by decide) (fun c40 => ?_) (fun c40 => ?_)
    · refine z_iload_n (pc' := 53) X dX8_price_52 rfl rfl ?_
      refine z_iconst (pc' := 54) X dX8_price_53 rfl ?_
      refine z_icmp_ne (tgt := 62) (pc' := 57) X (by first | assumption | omega) (by first | assumption | omega) dX8_price_54 rfl (by decide) (fun c54 => ?_) (fun c54 => ?_)
      · refine z_iload (pc' := 64) X dX8_price_62 rfl rfl ?_
        refine z_iconst (pc' := 65) X dX8_price_64 rfl ?_
        refine z_idivp (pc' := 66) X (by first | assumption | omega) (by decide) dX8_price_65 rfl ?_
        refine z_istore (pc' := 68) X dX8_price_66 rfl (by decide) rfl ?_
        dsimp only [List.set]
        refine z_iload (pc' := 70) X dX8_price_68 rfl rfl ?_
        refine z_aload_n (pc' := 71) X dX8_price_70 rfl rfl ?_
        refine z_iload_n (pc' := 72) X dX8_price_71 rfl rfl ?_
        refine z_iconst (pc' := 73) X dX8_price_72 rfl ?_
        refine z_V_fun2 (pc' := 76) X rfl Y_X8_ream q2354 dX8_price_73 rfl (by decide) (Nat.le_refl _) (Nat.le_refl _) (Nat.le_of_ble_eq_true rfl) (c_X8_ream _ _ _ _ _ _ (by first | assumption | omega) (by first | assumption | omega)) (fun r73 hr73 hp73 => ?_)
        subst hp73
        refine z_imul (pc' := 77) X dX8_price_76 rfl ?_
        refine z_bipush (pc' := 79) X dX8_price_77 rfl (by decide) ?_
        refine z_idivp (pc' := 80) X (by first | assumption | omega) (by decide) dX8_price_79 rfl ?_
        refine z_ireturn X dX8_price_80 (Nat.le_refl _) (Nat.le_refl _) (fun _ hh => ⟨hh, _, rfl, ?_, ?_⟩)
        · first | assumption | omega
        · unfold mPrice mFull; (repeat' split) <;> omega
      · refine z_iload (pc' := 59) X dX8_price_57 rfl rfl ?_
        refine z_goto (tgt := 66) X dX8_price_59 (by decide) ?_
        refine z_istore (pc' := 68) X dX8_price_66 rfl (by decide) rfl ?_
        dsimp only [List.set]
        refine z_iload (pc' := 70) X dX8_price_68 rfl rfl ?_
        refine z_aload_n (pc' := 71) X dX8_price_70 rfl rfl ?_
        refine z_iload_n (pc' := 72) X dX8_price_71 rfl rfl ?_
        refine z_iconst (pc' := 73) X dX8_price_72 rfl ?_
        refine z_V_fun2 (pc' := 76) X rfl Y_X8_ream q2354 dX8_price_73 rfl (by decide) (Nat.le_refl _) (Nat.le_refl _) (Nat.le_of_ble_eq_true rfl) (c_X8_ream _ _ _ _ _ _ (by first | assumption | omega) (by first | assumption | omega)) (fun r73 hr73 hp73 => ?_)
        subst hp73
        refine z_imul (pc' := 77) X dX8_price_76 rfl ?_
        refine z_bipush (pc' := 79) X dX8_price_77 rfl (by decide) ?_
        refine z_idivp (pc' := 80) X (by first | assumption | omega) (by decide) dX8_price_79 rfl ?_
        refine z_ireturn X dX8_price_80 (Nat.le_refl _) (Nat.le_refl _) (fun _ hh => ⟨hh, _, rfl, ?_, ?_⟩)
        · first | assumption | omega
        · unfold mPrice mFull; (repeat' split) <;> omega
    · refine z_iload (pc' := 45) X dX8_price_43 rfl rfl ?_
      refine z_iconst (pc' := 46) X dX8_price_45 rfl ?_
      refine z_imul (pc' := 47) X dX8_price_46 rfl ?_
      refine z_iconst (pc' := 48) X dX8_price_47 rfl ?_
      refine z_idivp (pc' := 49) X (by first | assumption | omega) (by decide) dX8_price_48 rfl ?_
      refine z_goto (tgt := 66) X dX8_price_49 (by decide) ?_
      refine z_istore (pc' := 68) X dX8_price_66 rfl (by decide) rfl ?_
      dsimp only [List.set]
      refine z_iload (pc' := 70) X dX8_price_68 rfl rfl ?_
      refine z_aload_n (pc' := 71) X dX8_price_70 rfl rfl ?_
      refine z_iload_n (pc' := 72) X dX8_price_71 rfl rfl ?_
      refine z_iconst (pc' := 73) X dX8_price_72 rfl ?_
      refine z_V_fun2 (pc' := 76) X rfl Y_X8_ream q2354 dX8_price_73 rfl (by decide) (Nat.le_refl _) (Nat.le_refl _) (Nat.le_of_ble_eq_true rfl) (c_X8_ream _ _ _ _ _ _ (by first | assumption | omega) (by first | assumption | omega)) (fun r73 hr73 hp73 => ?_)
      subst hp73
      refine z_imul (pc' := 77) X dX8_price_76 rfl ?_
      refine z_bipush (pc' := 79) X dX8_price_77 rfl (by decide) ?_
      refine z_idivp (pc' := 80) X (by first | assumption | omega) (by decide) dX8_price_79 rfl ?_
      refine z_ireturn X dX8_price_80 (Nat.le_refl _) (Nat.le_refl _) (fun _ hh => ⟨hh, _, rfl, ?_, ?_⟩)
      · first | assumption | omega
      · unfold mPrice mFull; (repeat' split) <;> omega
theorem Y_X8_unitsOf : zYV yX8_unitsOf cX8_unitsOf 2 (some .int) 1 := ⟨⟨q2364, qs80, q132, q2365⟩, by decide +kernel, by decide⟩
set_option maxRecDepth 100000 in
theorem c_X8_unitsOf (l : Launch) (g : zG) (ma : Nat → Nat) (M : MM) (p : Int) (hp : 0 ≤ p ∧ p < M 1 6) (hI : mI M) : mFun l yX8_unitsOf cX8_unitsOf 2 (some .int) 2 [vR (ma 0), vI p] g ma M (fun r => r = mRm M p 3 * 24 * mZ (mRm M p 1)) := by
  refine mFun.mk (L0 := [some (vR (ma 0)), some (vI p)]) (by decide) rfl (Nat.le_of_ble_eq_true rfl) rfl (fun C h hg hl hR X => ?_)
  subst hg hl
  have hI1 := mI_q hI hp
  have hI3 := mI_n hI
  have hZ := mZ_b (mRm M p 1)
  refine z_aload_n (pc' := 1) X dX8_unitsOf_0 rfl rfl ?_
  refine z_iload_n (pc' := 2) X dX8_unitsOf_1 rfl rfl ?_
  refine z_iconst (pc' := 3) X dX8_unitsOf_2 rfl ?_
  refine z_V_fun2 (pc' := 6) X rfl Y_X8_ream q2354 dX8_unitsOf_3 rfl (by decide) (Nat.le_refl _) (Nat.le_refl _) (Nat.le_of_ble_eq_true rfl) (c_X8_ream _ _ _ _ _ _ (by first | assumption | omega) (by first | assumption | omega)) (fun r3 hr3 hp3 => ?_)
  subst hp3
  refine z_bipush (pc' := 8) X dX8_unitsOf_6 rfl (by decide) ?_
  refine z_imul (pc' := 9) X dX8_unitsOf_8 rfl ?_
  refine z_aload_n (pc' := 10) X dX8_unitsOf_9 rfl rfl ?_
  refine z_iload_n (pc' := 11) X dX8_unitsOf_10 rfl rfl ?_
  refine z_iconst (pc' := 12) X dX8_unitsOf_11 rfl ?_
  refine z_V_fun2 (pc' := 15) X rfl Y_X8_ream q2354 dX8_unitsOf_12 rfl (by decide) (Nat.le_refl _) (Nat.le_refl _) (Nat.le_of_ble_eq_true rfl) (c_X8_ream _ _ _ _ _ _ (by first | assumption | omega) (by first | assumption | omega)) (fun r12 hr12 hp12 => ?_)
  subst hp12
  refine z_S_fun1 (pc' := 18) X Y_X8_unitsBy q2296 dX8_unitsOf_15 rfl (by decide) (Nat.le_refl _) (Nat.le_refl _) (Nat.le_of_ble_eq_true rfl) (fun h _ => c_X8_unitsBy _ _ _ _ (by first | assumption | omega)) (fun r15 hr15 hp15 => ?_)
  subst hp15
  refine z_imul (pc' := 19) X dX8_unitsOf_18 rfl ?_
  refine z_ireturn X dX8_unitsOf_19 (Nat.le_refl _) (Nat.le_refl _) (fun _ hh => ⟨hh, _, rfl, ?_, ?_⟩)
  · have := mulb (a := mRm M p 3 * 24) (b := mZ (mRm M p 1)) (A := 480) (B := 4) (by omega) (by omega); omega
  · first | rfl | omega
theorem Y_X8_isNextToMouldy : zYV yX8_isNextToMouldy cX8_isNextToMouldy 2 (some .boolean) 1 := ⟨⟨q2392, qs86, q132, q2393⟩, by decide +kernel, by decide⟩
set_option maxRecDepth 100000 in
theorem c_X8_isNextToMouldy (l : Launch) (g : zG) (ma : Nat → Nat) (M : MM) (p : Int) (hp : 0 ≤ p ∧ p < 24) : mFun l yX8_isNextToMouldy cX8_isNextToMouldy 2 (some .boolean) 1 [vR (ma 0), vI p] g ma M (fun r => (r = 1 ∧ (M 6 p = 1 ∨ M 6 (p + 2) = 1)) ∨ (r = 0 ∧ ¬ (M 6 p = 1 ∨ M 6 (p + 2) = 1))) := by
  refine mFun.mk (L0 := [some (vR (ma 0)), some (vI p)]) (by decide) rfl (Nat.le_of_ble_eq_true rfl) rfl (fun C h hg hl hR X => ?_)
  subst hg hl
  refine z_aload_n (pc' := 1) X dX8_isNextToMouldy_0 rfl rfl ?_
  refine z_mget (pc' := 4) X 7 rfl (by decide) q2070 rfl dX8_isNextToMouldy_1 rfl ?_
  refine z_iload_n (pc' := 5) X dX8_isNextToMouldy_4 rfl rfl ?_
  refine z_mld (pc' := 6) X (r := 6) (by decide) (show 0 ≤ _ ∧ _ < (26 : Int) by omega) dX8_isNextToMouldy_5 rfl (fun hv5 => ?_)
  refine z_iconst (pc' := 7) X dX8_isNextToMouldy_6 rfl ?_
  refine z_icmp_eq (tgt := 22) (pc' := 10) X (by first | assumption | omega) (by first | assumption | omega) dX8_isNextToMouldy_7 rfl (by decide) (fun c7 => ?_) (fun c7 => ?_)
  · refine z_iconst (pc' := 23) X dX8_isNextToMouldy_22 rfl ?_
    refine z_goto (tgt := 27) X dX8_isNextToMouldy_23 (by decide) ?_
    refine z_zreturn X dX8_isNextToMouldy_27 (by first | exact nar_0 | exact nar_1 | exact nar_b (by omega)) (Nat.le_refl _) (Nat.le_refl _) (fun _ hh => ⟨hh, _, rfl, ?_, ?_⟩)
    · first | assumption | omega
    · first | rfl | omega
  · refine z_aload_n (pc' := 11) X dX8_isNextToMouldy_10 rfl rfl ?_
    refine z_mget (pc' := 14) X 7 rfl (by decide) q2070 rfl dX8_isNextToMouldy_11 rfl ?_
    refine z_iload_n (pc' := 15) X dX8_isNextToMouldy_14 rfl rfl ?_
    refine z_iconst (pc' := 16) X dX8_isNextToMouldy_15 rfl ?_
    refine z_iadd (pc' := 17) X dX8_isNextToMouldy_16 rfl ?_
    refine z_mld (pc' := 18) X (r := 6) (by decide) (show 0 ≤ _ ∧ _ < (26 : Int) by omega) dX8_isNextToMouldy_17 rfl (fun hv17 => ?_)
    refine z_iconst (pc' := 19) X dX8_isNextToMouldy_18 rfl ?_
    refine z_icmp_ne (tgt := 26) (pc' := 22) X (by first | assumption | omega) (by first | assumption | omega) dX8_isNextToMouldy_19 rfl (by decide) (fun c19 => ?_) (fun c19 => ?_)
    · refine z_iconst (pc' := 27) X dX8_isNextToMouldy_26 rfl ?_
      refine z_zreturn X dX8_isNextToMouldy_27 (by first | exact nar_0 | exact nar_1 | exact nar_b (by omega)) (Nat.le_refl _) (Nat.le_refl _) (fun _ hh => ⟨hh, _, rfl, ?_, ?_⟩)
      · first | assumption | omega
      · first | rfl | omega
    · refine z_iconst (pc' := 23) X dX8_isNextToMouldy_22 rfl ?_
      refine z_goto (tgt := 27) X dX8_isNextToMouldy_23 (by decide) ?_
      refine z_zreturn X dX8_isNextToMouldy_27 (by first | exact nar_0 | exact nar_1 | exact nar_b (by omega)) (Nat.le_refl _) (Nat.le_refl _) (fun _ hh => ⟨hh, _, rfl, ?_, ?_⟩)
      · first | assumption | omega
      · first | rfl | omega
theorem Y_X8_whyNoReam : zYV yX8_whyNoReam cX8_whyNoReam 4 (some .int) 3 := ⟨⟨q2316, qs70, q132, q2317⟩, by decide +kernel, by decide⟩
set_option maxRecDepth 100000 in
theorem c_X8_whyNoReam (l : Launch) (g : zG) (ma : Nat → Nat) (M : MM) (a b c : Int) (ha : rng a) (hb : rng b) (hc : rng c) (hI : mI M) : mFun l yX8_whyNoReam cX8_whyNoReam 4 (some .int) 4 [vR (ma 0), vI a, vI b, vI c] g ma M (fun r => r = (if dryM M a b c < 480 then 1 else if M 1 6 = 30 then 2 else 0)) := by
  refine mFun.mk (L0 := [some (vR (ma 0)), some (vI a), some (vI b), some (vI c)]) (by decide) rfl (Nat.le_of_ble_eq_true rfl) rfl (fun C h hg hl hR X => ?_)
  subst hg hl
  have hI1 := mI_n hI
  refine z_aload_n (pc' := 1) X dX8_whyNoReam_0 rfl rfl ?_
  refine z_iload_n (pc' := 2) X dX8_whyNoReam_1 rfl rfl ?_
  refine z_iload_n (pc' := 3) X dX8_whyNoReam_2 rfl rfl ?_
  refine z_iload_n (pc' := 4) X dX8_whyNoReam_3 rfl rfl ?_
  refine z_V_fun3 (pc' := 7) X rfl Y_X8_dry q2318 dX8_whyNoReam_4 rfl (by decide) (Nat.le_refl _) (Nat.le_refl _) (Nat.le_of_ble_eq_true rfl) (c_X8_dry _ _ _ _ _ _ _ (by first | assumption | omega) (by first | assumption | omega) (by first | assumption | omega) (by first | assumption | omega)) (fun r4 hr4 hp4 => ?_)
  subst hp4
  refine z_sipush (pc' := 10) X dX8_whyNoReam_7 rfl (by decide) ?_
  refine z_icmp_ge (tgt := 17) (pc' := 13) X (by first | assumption | omega) (by first | assumption | omega) dX8_whyNoReam_10 rfl (by decide) (fun c10 => ?_) (fun c10 => ?_)
  · refine z_aload_n (pc' := 18) X dX8_whyNoReam_17 rfl rfl ?_
    refine z_mget (pc' := 21) X 0 rfl (by decide) q2063 rfl dX8_whyNoReam_18 rfl ?_
    refine z_bipush (pc' := 23) X dX8_whyNoReam_21 rfl (by decide) ?_
    refine z_mld (pc' := 24) X (r := 1) (by decide) (show 0 ≤ _ ∧ _ < (321 : Int) by omega) dX8_whyNoReam_23 rfl (fun hv23 => ?_)
    refine z_bipush (pc' := 26) X dX8_whyNoReam_24 rfl (by decide) ?_
    refine z_icmp_ne (tgt := 33) (pc' := 29) X (by first | assumption | omega) (by first | assumption | omega) dX8_whyNoReam_26 rfl (by decide) (fun c26 => ?_) (fun c26 => ?_)
    · refine z_iconst (pc' := 34) X dX8_whyNoReam_33 rfl ?_
      refine z_ireturn X dX8_whyNoReam_34 (Nat.le_refl _) (Nat.le_refl _) (fun _ hh => ⟨hh, _, rfl, ?_, ?_⟩)
      · first | assumption | omega
      · (repeat' split) <;> omega
    · refine z_iconst (pc' := 30) X dX8_whyNoReam_29 rfl ?_
      refine z_goto (tgt := 34) X dX8_whyNoReam_30 (by decide) ?_
      refine z_ireturn X dX8_whyNoReam_34 (Nat.le_refl _) (Nat.le_refl _) (fun _ hh => ⟨hh, _, rfl, ?_, ?_⟩)
      · first | assumption | omega
      · (repeat' split) <;> omega
  · refine z_iconst (pc' := 14) X dX8_whyNoReam_13 rfl ?_
    refine z_goto (tgt := 34) X dX8_whyNoReam_14 (by decide) ?_
    refine z_ireturn X dX8_whyNoReam_34 (Nat.le_refl _) (Nat.le_refl _) (fun _ hh => ⟨hh, _, rfl, ?_, ?_⟩)
    · first | assumption | omega
    · (repeat' split) <;> omega
end M2

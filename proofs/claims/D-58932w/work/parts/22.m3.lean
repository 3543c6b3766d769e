/-! THE MODEL: rows moved, saved, shares -/
section M3
def mTake (M : MM) (b w p c : Int) : MM := mdown (mset M 1 c (M 1 c - 1)) 1 (b + w * p) w (w * (M 1 c - 1) - w * p)
theorem mdown_o {M : MM} {r r' : Nat} {e w c j : Int} (h : r' ≠ r ∨ j < e ∨ e + c ≤ j) : mdown M r e w c r' j = M r' j := if_neg (fun q => by omega)
theorem Y_X8_takesOut : zYV yX8_takesOut cX8_takesOut 6 none 4 := ⟨⟨q2204, qs55, q132, q2205⟩, by decide +kernel, by decide⟩
set_option maxRecDepth 100000 in
theorem c_X8_takesOut_b (l : Launch) (g : zG) (ma : Nat → Nat) (M : MM) (p : Int) (hp : 0 ≤ p ∧ p < M 1 4) (hn : M 1 4 ≤ 24) : mVoid l yX8_takesOut cX8_takesOut 6 1 [vR (ma 0), vI 21, vI 4, vI p, vI 4] g ma M (fun M' => M' = mTake M 21 4 p 4) := by
  refine mVoid.mk (L0 := [some (vR (ma 0)), some (vI 21), some (vI 4), some (vI p), some (vI 4), none]) (by decide) rfl (Nat.le_of_ble_eq_true rfl) rfl (fun C h hg hl hR X => ?_)
  subst hg hl
  refine z_aload_n (pc' := 1) X dX8_takesOut_0 rfl rfl ?_
  refine z_mget (pc' := 4) X 0 rfl (by decide) q2063 rfl dX8_takesOut_1 rfl ?_
  refine z_iload (pc' := 6) X dX8_takesOut_4 rfl rfl ?_
  refine z_dup2 (pc' := 7) X rfl rfl dX8_takesOut_6 rfl ?_
  refine z_mld (pc' := 8) X (r := 1) (by decide) (show 0 ≤ _ ∧ _ < (321 : Int) by omega) dX8_takesOut_7 rfl (fun hv7 => ?_)
  refine z_iconst (pc' := 9) X dX8_takesOut_8 rfl ?_
  refine z_isub (pc' := 10) X dX8_takesOut_9 rfl ?_
  refine z_mst (pc' := 11) X (r := 1) (by decide) (show 0 ≤ _ ∧ _ < (321 : Int) by omega) (by first | assumption | omega) dX8_takesOut_10 rfl (fun hR10 => ?_)
  refine z_iload_n (pc' := 12) X dX8_takesOut_11 rfl rfl ?_
  refine z_iload_n (pc' := 13) X dX8_takesOut_12 rfl rfl ?_
  refine z_iload_n (pc' := 14) X dX8_takesOut_13 rfl rfl ?_
  refine z_imul (pc' := 15) X dX8_takesOut_14 rfl ?_
  refine z_iadd (pc' := 16) X dX8_takesOut_15 rfl ?_
  refine z_istore (pc' := 18) X dX8_takesOut_16 rfl (by decide) rfl ?_
  dsimp only [List.set]
  have loop18 : ∀ (N : Nat) (c k : Int), (0 ≤ c ∧ 4 * p + c ≤ 4 * (M 1 4 - 1)) → (k = 21 + 4 * p + c) → (4 * (M 1 4 - 1) - 4 * p - c).toNat < N → ZP C 6 (mF ma h (mdown (mset M 1 4 (M 1 4 - 1)) 1 (21 + 4 * p) 4 c)) 0 0 [some (vR (ma 0)), some (vI 21), some (vI 4), some (vI p), some (vI 4), some (vI k)] 18 [] := by
    intro N
    induction N with
    | zero => intro c k hc hkc hN; exact absurd hN (Nat.not_lt_zero _)
    | succ N ih18 =>
      intro c k hc hkc hN
      refine ZP.fact (P := mR (mdown (mset M 1 4 (M 1 4 - 1)) 1 (21 + 4 * p) 4 c)) (fun _ h => h.1.2.2.2) (fun hR18 => ?_)
      refine z_iload (pc' := 20) X dX8_takesOut_18 rfl rfl ?_
      refine z_iload_n (pc' := 21) X dX8_takesOut_20 rfl rfl ?_
      refine z_iload_n (pc' := 22) X dX8_takesOut_21 rfl rfl ?_
      refine z_aload_n (pc' := 23) X dX8_takesOut_22 rfl rfl ?_
      refine z_mget (pc' := 26) X 0 rfl (by decide) q2063 rfl dX8_takesOut_23 rfl ?_
      refine z_iload (pc' := 28) X dX8_takesOut_26 rfl rfl ?_
      refine z_mld (pc' := 29) X (r := 1) (by decide) (show 0 ≤ _ ∧ _ < (321 : Int) by omega) dX8_takesOut_28 rfl (fun hv28 => ?_)
      have e28 : (mdown (mset M 1 4 (M 1 4 - 1)) 1 (21 + 4 * p) 4 c) 1 4 = M 1 4 - 1 := by rw [mdown_o (by omega), mset_s]
      rw [e28]
      rw [e28] at hv28
      refine z_imul (pc' := 30) X dX8_takesOut_29 rfl ?_
      refine z_iadd (pc' := 31) X dX8_takesOut_30 rfl ?_
      refine z_icmp_ge (tgt := 56) (pc' := 34) X (by first | assumption | omega) (by first | assumption | omega) dX8_takesOut_31 rfl (by decide) (fun c31 => ?_) (fun c31 => ?_)
      · refine z_return X dX8_takesOut_56 (Nat.le_refl _) (Nat.le_refl _) (fun _ hh => ⟨_, hh, rfl, ?_⟩)
        · unfold mTake; rw [show c = 4 * (M 1 4 - 1) - 4 * p by omega]
      · refine z_aload_n (pc' := 35) X dX8_takesOut_34 rfl rfl ?_
        refine z_mget (pc' := 38) X 0 rfl (by decide) q2063 rfl dX8_takesOut_35 rfl ?_
        refine z_iload (pc' := 40) X dX8_takesOut_38 rfl rfl ?_
        refine z_aload_n (pc' := 41) X dX8_takesOut_40 rfl rfl ?_
        refine z_mget (pc' := 44) X 0 rfl (by decide) q2063 rfl dX8_takesOut_41 rfl ?_
        refine z_iload (pc' := 46) X dX8_takesOut_44 rfl rfl ?_
        refine z_iload_n (pc' := 47) X dX8_takesOut_46 rfl rfl ?_
        refine z_iadd (pc' := 48) X dX8_takesOut_47 rfl ?_
        refine z_mld (pc' := 49) X (r := 1) (by decide) (show 0 ≤ _ ∧ _ < (321 : Int) by omega) dX8_takesOut_48 rfl (fun hv48 => ?_)
        refine z_mst (pc' := 50) X (r := 1) (by decide) (show 0 ≤ _ ∧ _ < (321 : Int) by omega) (by first | assumption | omega) dX8_takesOut_49 rfl (fun hR49 => ?_)
        refine z_iinc (pc' := 53) X dX8_takesOut_50 rfl (by decide) rfl rfl ?_
        dsimp only [List.set]
        refine z_goto (tgt := 18) X dX8_takesOut_53 (by decide) ?_
        rw [hkc, mdown_s (by omega) (by omega)]
        refine ZP.wk (L' := [some (vR (ma 0)), some (vI 21), some (vI 4), some (vI p), some (vI 4), some (vI _)]) (And.intro rfl (And.intro rfl (And.intro rfl (And.intro rfl (And.intro rfl (And.intro rfl (trivial))))))) ?_
        exact ih18 (c + 1) _ (by omega) (by omega) (by omega)
  rw [← mdown_0 (M := mset M 1 4 (M 1 4 - 1)) (r := 1) (e := 21 + 4 * p) (w := 4)]
  refine ZP.wk (L' := [some (vR (ma 0)), some (vI 21), some (vI 4), some (vI p), some (vI 4), some (vI _)]) (And.intro rfl (And.intro rfl (And.intro rfl (And.intro rfl (And.intro rfl (And.intro rfl (trivial))))))) ?_
  exact loop18 _ 0 _ (by omega) (by omega) (Nat.lt_succ_self _)
set_option maxRecDepth 100000 in
theorem c_X8_takesOut_p (l : Launch) (g : zG) (ma : Nat → Nat) (M : MM) (p : Int) (hp : 0 ≤ p ∧ p < M 1 5) (hn : M 1 5 ≤ 12) : mVoid l yX8_takesOut cX8_takesOut 6 1 [vR (ma 0), vI 141, vI 5, vI p, vI 5] g ma M (fun M' => M' = mTake M 141 5 p 5) := by
  refine mVoid.mk (L0 := [some (vR (ma 0)), some (vI 141), some (vI 5), some (vI p), some (vI 5), none]) (by decide) rfl (Nat.le_of_ble_eq_true rfl) rfl (fun C h hg hl hR X => ?_)
  subst hg hl
  refine z_aload_n (pc' := 1) X dX8_takesOut_0 rfl rfl ?_
  refine z_mget (pc' := 4) X 0 rfl (by decide) q2063 rfl dX8_takesOut_1 rfl ?_
  refine z_iload (pc' := 6) X dX8_takesOut_4 rfl rfl ?_
  refine z_dup2 (pc' := 7) X rfl rfl dX8_takesOut_6 rfl ?_
  refine z_mld (pc' := 8) X (r := 1) (by decide) (show 0 ≤ _ ∧ _ < (321 : Int) by omega) dX8_takesOut_7 rfl (fun hv7 => ?_)
  refine z_iconst (pc' := 9) X dX8_takesOut_8 rfl ?_
  refine z_isub (pc' := 10) X dX8_takesOut_9 rfl ?_
  refine z_mst (pc' := 11) X (r := 1) (by decide) (show 0 ≤ _ ∧ _ < (321 : Int) by omega) (by first | assumption | omega) dX8_takesOut_10 rfl (fun hR10 => ?_)
  refine z_iload_n (pc' := 12) X dX8_takesOut_11 rfl rfl ?_
  refine z_iload_n (pc' := 13) X dX8_takesOut_12 rfl rfl ?_
  refine z_iload_n (pc' := 14) X dX8_takesOut_13 rfl rfl ?_
  refine z_imul (pc' := 15) X dX8_takesOut_14 rfl ?_
  refine z_iadd (pc' := 16) X dX8_takesOut_15 rfl ?_
  refine z_istore (pc' := 18) X dX8_takesOut_16 rfl (by decide) rfl ?_
  dsimp only [List.set]
  have loop18 : ∀ (N : Nat) (c k : Int), (0 ≤ c ∧ 5 * p + c ≤ 5 * (M 1 5 - 1)) → (k = 141 + 5 * p + c) → (5 * (M 1 5 - 1) - 5 * p - c).toNat < N → ZP C 6 (mF ma h (mdown (mset M 1 5 (M 1 5 - 1)) 1 (141 + 5 * p) 5 c)) 0 0 [some (vR (ma 0)), some (vI 141), some (vI 5), some (vI p), some (vI 5), some (vI k)] 18 [] := by
    intro N
    induction N with
    | zero => intro c k hc hkc hN; exact absurd hN (Nat.not_lt_zero _)
    | succ N ih18 =>
      intro c k hc hkc hN
      refine ZP.fact (P := mR (mdown (mset M 1 5 (M 1 5 - 1)) 1 (141 + 5 * p) 5 c)) (fun _ h => h.1.2.2.2) (fun hR18 => ?_)
      refine z_iload (pc' := 20) X dX8_takesOut_18 rfl rfl ?_
      refine z_iload_n (pc' := 21) X dX8_takesOut_20 rfl rfl ?_
      refine z_iload_n (pc' := 22) X dX8_takesOut_21 rfl rfl ?_
      refine z_aload_n (pc' := 23) X dX8_takesOut_22 rfl rfl ?_
      refine z_mget (pc' := 26) X 0 rfl (by decide) q2063 rfl dX8_takesOut_23 rfl ?_
      refine z_iload (pc' := 28) X dX8_takesOut_26 rfl rfl ?_
      refine z_mld (pc' := 29) X (r := 1) (by decide) (show 0 ≤ _ ∧ _ < (321 : Int) by omega) dX8_takesOut_28 rfl (fun hv28 => ?_)
      have e28 : (mdown (mset M 1 5 (M 1 5 - 1)) 1 (141 + 5 * p) 5 c) 1 5 = M 1 5 - 1 := by rw [mdown_o (by omega), mset_s]
      rw [e28]
      rw [e28] at hv28
      refine z_imul (pc' := 30) X dX8_takesOut_29 rfl ?_
      refine z_iadd (pc' := 31) X dX8_takesOut_30 rfl ?_
      refine z_icmp_ge (tgt := 56) (pc' := 34) X (by first | assumption | omega) (by first | assumption | omega) dX8_takesOut_31 rfl (by decide) (fun c31 => ?_) (fun c31 => ?_)
      · refine z_return X dX8_takesOut_56 (Nat.le_refl _) (Nat.le_refl _) (fun _ hh => ⟨_, hh, rfl, ?_⟩)
        · unfold mTake; rw [show c = 5 * (M 1 5 - 1) - 5 * p by omega]
      · refine z_aload_n (pc' := 35) X dX8_takesOut_34 rfl rfl ?_
        refine z_mget (pc' := 38) X 0 rfl (by decide) q2063 rfl dX8_takesOut_35 rfl ?_
        refine z_iload (pc' := 40) X dX8_takesOut_38 rfl rfl ?_
        refine z_aload_n (pc' := 41) X dX8_takesOut_40 rfl rfl ?_
        refine z_mget (pc' := 44) X 0 rfl (by decide) q2063 rfl dX8_takesOut_41 rfl ?_
        refine z_iload (pc' := 46) X dX8_takesOut_44 rfl rfl ?_
        refine z_iload_n (pc' := 47) X dX8_takesOut_46 rfl rfl ?_
        refine z_iadd (pc' := 48) X dX8_takesOut_47 rfl ?_
        refine z_mld (pc' := 49) X (r := 1) (by decide) (show 0 ≤ _ ∧ _ < (321 : Int) by omega) dX8_takesOut_48 rfl (fun hv48 => ?_)
        refine z_mst (pc' := 50) X (r := 1) (by decide) (show 0 ≤ _ ∧ _ < (321 : Int) by omega) (by first | assumption | omega) dX8_takesOut_49 rfl (fun hR49 => ?_)
        refine z_iinc (pc' := 53) X dX8_takesOut_50 rfl (by decide) rfl rfl ?_
        dsimp only [List.set]
        refine z_goto (tgt := 18) X dX8_takesOut_53 (by decide) ?_
        rw [hkc, mdown_s (by omega) (by omega)]
        refine ZP.wk (L' := [some (vR (ma 0)), some (vI 141), some (vI 5), some (vI p), some (vI 5), some (vI _)]) (And.intro rfl (And.intro rfl (And.intro rfl (And.intro rfl (And.intro rfl (And.intro rfl (trivial))))))) ?_
        exact ih18 (c + 1) _ (by omega) (by omega) (by omega)
  rw [← mdown_0 (M := mset M 1 5 (M 1 5 - 1)) (r := 1) (e := 141 + 5 * p) (w := 5)]
  refine ZP.wk (L' := [some (vR (ma 0)), some (vI 141), some (vI 5), some (vI p), some (vI 5), some (vI _)]) (And.intro rfl (And.intro rfl (And.intro rfl (And.intro rfl (And.intro rfl (And.intro rfl (trivial))))))) ?_
  exact loop18 _ 0 _ (by omega) (by omega) (Nat.lt_succ_self _)
set_option maxRecDepth 100000 in
theorem c_X8_takesOut_r (l : Launch) (g : zG) (ma : Nat → Nat) (M : MM) (p : Int) (hp : 0 ≤ p ∧ p < M 1 6) (hn : M 1 6 ≤ 30) : mVoid l yX8_takesOut cX8_takesOut 6 1 [vR (ma 0), vI 201, vI 4, vI p, vI 6] g ma M (fun M' => M' = mTake M 201 4 p 6) := by
  refine mVoid.mk (L0 := [some (vR (ma 0)), some (vI 201), some (vI 4), some (vI p), some (vI 6), none]) (by decide) rfl (Nat.le_of_ble_eq_true rfl) rfl (fun C h hg hl hR X => ?_)
  subst hg hl
  refine z_aload_n (pc' := 1) X dX8_takesOut_0 rfl rfl ?_
  refine z_mget (pc' := 4) X 0 rfl (by decide) q2063 rfl dX8_takesOut_1 rfl ?_
  refine z_iload (pc' := 6) X dX8_takesOut_4 rfl rfl ?_
  refine z_dup2 (pc' := 7) X rfl rfl dX8_takesOut_6 rfl ?_
  refine z_mld (pc' := 8) X (r := 1) (by decide) (show 0 ≤ _ ∧ _ < (321 : Int) by omega) dX8_takesOut_7 rfl (fun hv7 => ?_)
  refine z_iconst (pc' := 9) X dX8_takesOut_8 rfl ?_
  refine z_isub (pc' := 10) X dX8_takesOut_9 rfl ?_
  refine z_mst (pc' := 11) X (r := 1) (by decide) (show 0 ≤ _ ∧ _ < (321 : Int) by omega) (by first | assumption | omega) dX8_takesOut_10 rfl (fun hR10 => ?_)
  refine z_iload_n (pc' := 12) X dX8_takesOut_11 rfl rfl ?_
  refine z_iload_n (pc' := 13) X dX8_takesOut_12 rfl rfl ?_
  refine z_iload_n (pc' := 14) X dX8_takesOut_13 rfl rfl ?_
  refine z_imul (pc' := 15) X dX8_takesOut_14 rfl ?_
  refine z_iadd (pc' := 16) X dX8_takesOut_15 rfl ?_
  refine z_istore (pc' := 18) X dX8_takesOut_16 rfl (by decide) rfl ?_
  dsimp only [List.set]
  have loop18 : ∀ (N : Nat) (c k : Int), (0 ≤ c ∧ 4 * p + c ≤ 4 * (M 1 6 - 1)) → (k = 201 + 4 * p + c) → (4 * (M 1 6 - 1) - 4 * p - c).toNat < N → ZP C 6 (mF ma h (mdown (mset M 1 6 (M 1 6 - 1)) 1 (201 + 4 * p) 4 c)) 0 0 [some (vR (ma 0)), some (vI 201), some (vI 4), some (vI p), some (vI 6), some (vI k)] 18 [] := by
    intro N
    induction N with
    | zero => intro c k hc hkc hN; exact absurd hN (Nat.not_lt_zero _)
    | succ N ih18 =>
      intro c k hc hkc hN
      refine ZP.fact (P := mR (mdown (mset M 1 6 (M 1 6 - 1)) 1 (201 + 4 * p) 4 c)) (fun _ h => h.1.2.2.2) (fun hR18 => ?_)
      refine z_iload (pc' := 20) X dX8_takesOut_18 rfl rfl ?_
      refine z_iload_n (pc' := 21) X dX8_takesOut_20 rfl rfl ?_
      refine z_iload_n (pc' := 22) X dX8_takesOut_21 rfl rfl ?_
      refine z_aload_n (pc' := 23) X dX8_takesOut_22 rfl rfl ?_
      refine z_mget (pc' := 26) X 0 rfl (by decide) q2063 rfl dX8_takesOut_23 rfl ?_
      refine z_iload (pc' := 28) X dX8_takesOut_26 rfl rfl ?_
      refine z_mld (pc' := 29) X (r := 1) (by decide) (show 0 ≤ _ ∧ _ < (321 : Int) by omega) dX8_takesOut_28 rfl (fun hv28 => ?_)
      have e28 : (mdown (mset M 1 6 (M 1 6 - 1)) 1 (201 + 4 * p) 4 c) 1 6 = M 1 6 - 1 := by rw [mdown_o (by omega), mset_s]
      rw [e28]
      rw [e28] at hv28
      refine z_imul (pc' := 30) X dX8_takesOut_29 rfl ?_
      refine z_iadd (pc' := 31) X dX8_takesOut_30 rfl ?_
      refine z_icmp_ge (tgt := 56) (pc' := 34) X (by first | assumption | omega) (by first | assumption | omega) dX8_takesOut_31 rfl (by decide) (fun c31 => ?_) (fun c31 => ?_)
      · refine z_return X dX8_takesOut_56 (Nat.le_refl _) (Nat.le_refl _) (fun _ hh => ⟨_, hh, rfl, ?_⟩)
        · unfold mTake; rw [show c = 4 * (M 1 6 - 1) - 4 * p by omega]
      · refine z_aload_n (pc' := 35) X dX8_takesOut_34 rfl rfl ?_
        refine z_mget (pc' := 38) X 0 rfl (by decide) q2063 rfl dX8_takesOut_35 rfl ?_
        refine z_iload (pc' := 40) X dX8_takesOut_38 rfl rfl ?_
        refine z_aload_n (pc' := 41) X dX8_takesOut_40 rfl rfl ?_
        refine z_mget (pc' := 44) X 0 rfl (by decide) q2063 rfl dX8_takesOut_41 rfl ?_
        refine z_iload (pc' := 46) X dX8_takesOut_44 rfl rfl ?_
        refine z_iload_n (pc' := 47) X dX8_takesOut_46 rfl rfl ?_
        refine z_iadd (pc' := 48) X dX8_takesOut_47 rfl ?_
        refine z_mld (pc' := 49) X (r := 1) (by decide) (show 0 ≤ _ ∧ _ < (321 : Int) by omega) dX8_takesOut_48 rfl (fun hv48 => ?_)
        refine z_mst (pc' := 50) X (r := 1) (by decide) (show 0 ≤ _ ∧ _ < (321 : Int) by omega) (by first | assumption | omega) dX8_takesOut_49 rfl (fun hR49 => ?_)
        refine z_iinc (pc' := 53) X dX8_takesOut_50 rfl (by decide) rfl rfl ?_
        dsimp only [List.set]
        refine z_goto (tgt := 18) X dX8_takesOut_53 (by decide) ?_
        rw [hkc, mdown_s (by omega) (by omega)]
        refine ZP.wk (L' := [some (vR (ma 0)), some (vI 201), some (vI 4), some (vI p), some (vI 6), some (vI _)]) (And.intro rfl (And.intro rfl (And.intro rfl (And.intro rfl (And.intro rfl (And.intro rfl (trivial))))))) ?_
        exact ih18 (c + 1) _ (by omega) (by omega) (by omega)
  rw [← mdown_0 (M := mset M 1 6 (M 1 6 - 1)) (r := 1) (e := 201 + 4 * p) (w := 4)]
  refine ZP.wk (L' := [some (vR (ma 0)), some (vI 201), some (vI 4), some (vI p), some (vI 6), some (vI _)]) (And.intro rfl (And.intro rfl (And.intro rfl (And.intro rfl (And.intro rfl (And.intro rfl (trivial))))))) ?_
  exact loop18 _ 0 _ (by omega) (by omega) (Nat.lt_succ_self _)
theorem Y_X8_stamps : zYV yX8_stamps cX8_stamps 3 (some .int) 2 := ⟨⟨q2256, qs63, q132, q2257⟩, by decide +kernel, by decide⟩
set_option maxRecDepth 100000 in
theorem c_X8_stamps (l : Launch) (g : zG) (ma : Nat → Nat) (M : MM) (v t : Int) (hv : 0 ≤ v ∧ v < 3) (ht : 0 ≤ t ∧ t ≤ 24) (hI : 0 ≤ mV M v 1 ∧ mV M v 1 ≤ 48) : mInt l yX8_stamps cX8_stamps 3 (some .int) 1 [vR (ma 0), vI v, vI t] g ma M (fun r M' => r = mV M v 1 + t ∧ M' = mset M 1 (117 + 3 * v + 1) (mV M v 1 + t)) := by
  refine mInt.mk (L0 := [some (vR (ma 0)), some (vI v), some (vI t)]) (by decide) rfl (Nat.le_of_ble_eq_true rfl) rfl (fun C h hg hl hR X => ?_)
  subst hg hl
  unfold mV at hI
  refine z_aload_n (pc' := 1) X dX8_stamps_0 rfl rfl ?_
  refine z_mget (pc' := 4) X 0 rfl (by decide) q2063 rfl dX8_stamps_1 rfl ?_
  refine z_bipush (pc' := 6) X dX8_stamps_4 rfl (by decide) ?_
  refine z_iconst (pc' := 7) X dX8_stamps_6 rfl ?_
  refine z_iload_n (pc' := 8) X dX8_stamps_7 rfl rfl ?_
  refine z_imul (pc' := 9) X dX8_stamps_8 rfl ?_
  refine z_iadd (pc' := 10) X dX8_stamps_9 rfl ?_
  refine z_iconst (pc' := 11) X dX8_stamps_10 rfl ?_
  refine z_iadd (pc' := 12) X dX8_stamps_11 rfl ?_
  refine z_dup2 (pc' := 13) X rfl rfl dX8_stamps_12 rfl ?_
  refine z_mld (pc' := 14) X (r := 1) (by decide) (show 0 ≤ _ ∧ _ < (321 : Int) by omega) dX8_stamps_13 rfl (fun hv13 => ?_)
  refine z_iload_n (pc' := 15) X dX8_stamps_14 rfl rfl ?_
  refine z_iadd (pc' := 16) X dX8_stamps_15 rfl ?_
  refine z_mst (pc' := 17) X (r := 1) (by decide) (show 0 ≤ _ ∧ _ < (321 : Int) by omega) (by first | assumption | omega) dX8_stamps_16 rfl (fun hR16 => ?_)
  refine z_aload_n (pc' := 18) X dX8_stamps_17 rfl rfl ?_
  refine z_mget (pc' := 21) X 0 rfl (by decide) q2063 rfl dX8_stamps_18 rfl ?_
  refine z_bipush (pc' := 23) X dX8_stamps_21 rfl (by decide) ?_
  refine z_iconst (pc' := 24) X dX8_stamps_23 rfl ?_
  refine z_iload_n (pc' := 25) X dX8_stamps_24 rfl rfl ?_
  refine z_imul (pc' := 26) X dX8_stamps_25 rfl ?_
  refine z_iadd (pc' := 27) X dX8_stamps_26 rfl ?_
  refine z_iconst (pc' := 28) X dX8_stamps_27 rfl ?_
  refine z_iadd (pc' := 29) X dX8_stamps_28 rfl ?_
  refine z_mld (pc' := 30) X (r := 1) (by decide) (show 0 ≤ _ ∧ _ < (321 : Int) by omega) dX8_stamps_29 rfl (fun hv29 => ?_)
  refine z_ireturn X dX8_stamps_30 (Nat.le_refl _) (Nat.le_refl _) (fun _ hh => ⟨_, hh, _, rfl, ?_, ?_⟩)
  · first | assumption | omega
  · exact ⟨by rw [mset_s]; rfl, rfl⟩
theorem Y_X8_lays : zYS yX8_lays cX8_lays 5 none 4 := ⟨⟨q2156, q132, q2157⟩, by decide +kernel, by decide⟩
set_option maxRecDepth 100000 in
theorem c_X8_lays (l : Launch) (g : zG) (ma : Nat → Nat) (M : MM) (a b : Int) (r1 r2 : Nat) (h1 : 1 ≤ r1 ∧ r1 < 10) (h2 : 1 ≤ r2 ∧ r2 < 10) (hne : r1 ≠ r2) (ha : 0 ≤ a ∧ a + 321 ≤ msz r1) (hb : 0 ≤ b ∧ b + 321 ≤ msz r2) : mVoid l yX8_lays cX8_lays 5 1 [vR (ma r1), vI a, vR (ma r2), vI b] g ma M (fun M' => M' = mcopy M r1 a r2 b 321) := by
  refine mVoid.mk (L0 := [some (vR (ma r1)), some (vI a), some (vR (ma r2)), some (vI b), none]) (by decide) rfl (Nat.le_of_ble_eq_true rfl) rfl (fun C h hg hl hR X => ?_)
  subst hg hl
  have hz1 := msz_le r1
  have hz2 := msz_le r2
  refine z_iconst (pc' := 1) X dX8_lays_0 rfl ?_
  refine z_istore (pc' := 3) X dX8_lays_1 rfl (by decide) rfl ?_
  dsimp only [List.set]
  have loop3 : ∀ (N : Nat) (k : Int), (0 ≤ k ∧ k ≤ 321) → (321 - k).toNat < N → ZP C 5 (mF ma h (mcopy M r1 a r2 b k)) 0 0 [some (vR (ma r1)), some (vI a), some (vR (ma r2)), some (vI b), some (vI k)] 3 [] := by
    intro N
    induction N with
    | zero => intro k hk hN; exact absurd hN (Nat.not_lt_zero _)
    | succ N ih3 =>
      intro k hk hN
      refine ZP.fact (P := mR (mcopy M r1 a r2 b k)) (fun _ h => h.1.2.2.2) (fun hR3 => ?_)
      refine z_iload (pc' := 5) X dX8_lays_3 rfl rfl ?_
      refine z_sipush (pc' := 8) X dX8_lays_5 rfl (by decide) ?_
      refine z_icmp_ge (tgt := 29) (pc' := 11) X (by first | assumption | omega) (by first | assumption | omega) dX8_lays_8 rfl (by decide) (fun c8 => ?_) (fun c8 => ?_)
      · refine z_return X dX8_lays_29 (Nat.le_refl _) (Nat.le_refl _) (fun _ hh => ⟨_, hh, rfl, ?_⟩)
        · rw [show k = 321 by omega]
      · refine z_aload_n (pc' := 12) X dX8_lays_11 rfl rfl ?_
        refine z_iload_n (pc' := 13) X dX8_lays_12 rfl rfl ?_
        refine z_iload (pc' := 15) X dX8_lays_13 rfl rfl ?_
        refine z_iadd (pc' := 16) X dX8_lays_15 rfl ?_
        refine z_aload_n (pc' := 17) X dX8_lays_16 rfl rfl ?_
        refine z_iload_n (pc' := 18) X dX8_lays_17 rfl rfl ?_
        refine z_iload (pc' := 20) X dX8_lays_18 rfl rfl ?_
        refine z_iadd (pc' := 21) X dX8_lays_20 rfl ?_
        refine z_mld (pc' := 22) X (r := r1) h1 (by omega) dX8_lays_21 rfl (fun hv21 => ?_)
        refine z_mst (pc' := 23) X (r := r2) h2 (by omega) (by first | assumption | omega) dX8_lays_22 rfl (fun hR22 => ?_)
        refine z_iinc (pc' := 26) X dX8_lays_23 rfl (by decide) rfl rfl ?_
        dsimp only [List.set]
        refine z_goto (tgt := 3) X dX8_lays_26 (by decide) ?_
        rw [mcopy_r (r := r1) hne, mcopy_s (by omega)]
        refine ZP.wk (L' := [some (vR (ma r1)), some (vI a), some (vR (ma r2)), some (vI b), some (vI _)]) (And.intro rfl (And.intro rfl (And.intro rfl (And.intro rfl (And.intro rfl (trivial)))))) ?_
        exact ih3 _ (by omega) (by omega)
  rw [← mcopy_0 (M := M) (r1 := r1) (r2 := r2) (a := a) (b := b)]
  refine ZP.wk (L' := [some (vR (ma r1)), some (vI a), some (vR (ma r2)), some (vI b), some (vI _)]) (And.intro rfl (And.intro rfl (And.intro rfl (And.intro rfl (And.intro rfl (trivial)))))) ?_
  exact loop3 _ _ (by omega) (Nat.lt_succ_self _)
def mSaved (M M' : MM) : Prop := (∀ r, r ≠ 0 → r ≠ 2 → M' r = M r) ∧ (∀ j, j ≠ 0 → M' 0 j = M 0 j) ∧ ((M 0 0 < 5 ∧ M' 0 0 = M 0 0 + 1 ∧ (∀ j, 0 ≤ j → j < 321 * M 0 0 → M' 2 j = M 2 j) ∧ ∀ j, 0 ≤ j → j < 321 → M' 2 (321 * M 0 0 + j) = M 1 j) ∨ (M 0 0 = 5 ∧ M' 0 0 = 5 ∧ (∀ j, 0 ≤ j → j < 1284 → M' 2 j = M 2 (j + 321)) ∧ ∀ j, 0 ≤ j → j < 321 → M' 2 (1284 + j) = M 1 j))
theorem mSave1 {M : MM} (h : 0 ≤ M 0 0 ∧ M 0 0 < 5) : mSaved M (mset (mcopy M 1 0 2 (321 * M 0 0) 321) 0 0 (M 0 0 + 1)) := by
  refine ⟨fun r h0 h2 => by rw [mset_r h0, mcopy_r h2], fun j hj => by rw [mset_k hj, mcopy_r (by decide)], Or.inl ⟨h.2, mset_s, fun j h1 h2 => ?_, fun j h1 h2 => ?_⟩⟩
  · rw [mset_r (by decide), mcopy_out (by omega)]
  · rw [mset_r (by decide), mcopy_in (by omega), show 0 + (321 * M 0 0 + j - 321 * M 0 0) = j by omega]
theorem mSave2 {M : MM} (h : M 0 0 = 5) : mSaved M (mset (mcopy (mset (mdown M 2 0 321 1284) 0 0 (M 0 0 - 1)) 1 0 2 (321 * (M 0 0 - 1)) 321) 0 0 (M 0 0 - 1 + 1)) := by
  refine ⟨fun r h0 h2 => ?_, fun j hj => ?_, Or.inr ⟨h, by rw [mset_s]; omega, fun j h1 h2 => ?_, fun j h1 h2 => ?_⟩⟩
  · rw [mset_r h0, mcopy_r h2, mset_r h0]
    funext j
    exact mdown_o (by omega)
  · rw [mset_k hj, mcopy_r (by decide), mset_k hj, mdown_o (by omega)]
  · rw [mset_r (by decide), mcopy_out (by omega), mset_r (by decide)]
    exact if_pos (by omega)
  · rw [mset_r (by decide), mcopy_in (by omega), mset_r (by decide), mdown_o (by omega), show 0 + (1284 + j - 321 * (M 0 0 - 1)) = j by omega]
theorem Y_X8_saves : zYV yX8_saves cX8_saves 2 none 0 := ⟨⟨q2153, qs49, q132, q2154⟩, by decide +kernel, by decide⟩
set_option maxRecDepth 100000 in
theorem c_X8_saves (l : Launch) (g : zG) (ma : Nat → Nat) (M : MM) (hs : 0 ≤ M 0 0 ∧ M 0 0 ≤ 5) : mVoid l yX8_saves cX8_saves 2 2 [vR (ma 0)] g ma M (fun M' => mSaved M M') := by
  refine mVoid.mk (L0 := [some (vR (ma 0)), none]) (by decide) rfl (Nat.le_of_ble_eq_true rfl) rfl (fun C h hg hl hR X => ?_)
  subst hg hl
  refine z_aload_n (pc' := 1) X dX8_saves_0 rfl rfl ?_
  have hv1 := hR 0 0
  refine z_mget (pc' := 4) X 2 rfl (by decide) q2065 rfl dX8_saves_1 rfl ?_
  refine z_iconst (pc' := 5) X dX8_saves_4 rfl ?_
  refine z_icmp_ne (tgt := 49) (pc' := 8) X (by first | assumption | omega) (by first | assumption | omega) dX8_saves_5 rfl (by decide) (fun c5 => ?_) (fun c5 => ?_)
  · refine z_aload_n (pc' := 50) X dX8_saves_49 rfl rfl ?_
    refine z_mget (pc' := 53) X 0 rfl (by decide) q2063 rfl dX8_saves_50 rfl ?_
    refine z_iconst (pc' := 54) X dX8_saves_53 rfl ?_
    refine z_aload_n (pc' := 55) X dX8_saves_54 rfl rfl ?_
    refine z_mget (pc' := 58) X 1 rfl (by decide) q2064 rfl dX8_saves_55 rfl ?_
    refine z_sipush (pc' := 61) X dX8_saves_58 rfl (by decide) ?_
    refine z_aload_n (pc' := 62) X dX8_saves_61 rfl rfl ?_
    have hv62 := hR 0 0
    refine z_mget (pc' := 65) X 2 rfl (by decide) q2065 rfl dX8_saves_62 rfl ?_
    try rw [mset_s] at hv62
    try rw [mset_s]
    refine z_imul (pc' := 66) X dX8_saves_65 rfl ?_
    refine z_S_void4 (pc' := 69) X Y_X8_lays q2155 dX8_saves_66 rfl (by decide) (Nat.le_refl _) (Nat.le_refl _) (Nat.le_of_ble_eq_true rfl) (c_X8_lays _ _ _ _ _ _ 1 2 (by decide) (by decide) (by decide) (by decide) (show 0 ≤ _ ∧ _ + 321 ≤ (1605 : Int) by omega)) (fun M66 hp66 hR66 => ?_)
    subst hp66
    refine z_aload_n (pc' := 70) X dX8_saves_69 rfl rfl ?_
    refine z_dup (pc' := 71) X rfl dX8_saves_70 rfl ?_
    have hv71 := hR66 0 0
    refine z_mget (pc' := 74) X 2 rfl (by decide) q2065 rfl dX8_saves_71 rfl ?_
    rw [mcopy_r (by decide)] at hv71
    rw [mcopy_r (r := 0) (by decide)]
    try rw [mset_s] at hv71
    try rw [mset_s]
    refine z_iconst (pc' := 75) X dX8_saves_74 rfl ?_
    refine z_iadd (pc' := 76) X dX8_saves_75 rfl ?_
    refine z_mput (pc' := 79) X 2 0 rfl (by decide) q2065 rfl rfl rfl (by first | assumption | omega) dX8_saves_76 rfl (fun hR76 => ?_)
    refine z_return X dX8_saves_79 (Nat.le_refl _) (Nat.le_refl _) (fun _ hh => ⟨_, hh, rfl, ?_⟩)
    · first | exact mSave1 ⟨hs.1, by omega⟩ | exact mSave2 (by omega)
  · refine z_iconst (pc' := 9) X dX8_saves_8 rfl ?_
    refine z_istore_n (pc' := 10) X dX8_saves_9 rfl (by decide) rfl ?_
    dsimp only [List.set]
    have loop10 : ∀ (N : Nat) (c k : Int), (0 ≤ c ∧ c ≤ 1284) → (k = 0 + c) → (1284 - c).toNat < N → ZP C 2 (mF ma h (mdown M 2 0 321 c)) 0 0 [some (vR (ma 0)), some (vI k)] 10 [] := by
      intro N
      induction N with
      | zero => intro c k hc hkc hN; exact absurd hN (Nat.not_lt_zero _)
      | succ N ih10 =>
        intro c k hc hkc hN
        refine ZP.fact (P := mR (mdown M 2 0 321 c)) (fun _ h => h.1.2.2.2) (fun hR10 => ?_)
        refine z_iload_n (pc' := 11) X dX8_saves_10 rfl rfl ?_
        refine z_sipush (pc' := 14) X dX8_saves_11 rfl (by decide) ?_
        refine z_icmp_ge (tgt := 39) (pc' := 17) X (by first | assumption | omega) (by first | assumption | omega) dX8_saves_14 rfl (by decide) (fun c14 => ?_) (fun c14 => ?_)
        · obtain rfl : c = 1284 := by omega
          have e41 : (mdown M 2 0 321 1284) 0 0 = M 0 0 := mdown_o (by omega)
          refine z_aload_n (pc' := 40) X dX8_saves_39 rfl rfl ?_
          refine z_dup (pc' := 41) X rfl dX8_saves_40 rfl ?_
          have hv41 := hR10 0 0
          refine z_mget (pc' := 44) X 2 rfl (by decide) q2065 rfl dX8_saves_41 rfl ?_
          rw [e41]
          rw [e41] at hv41
          refine z_iconst (pc' := 45) X dX8_saves_44 rfl ?_
          refine z_isub (pc' := 46) X dX8_saves_45 rfl ?_
          refine z_mput (pc' := 49) X 2 0 rfl (by decide) q2065 rfl rfl rfl (by first | assumption | omega) dX8_saves_46 rfl (fun hR46 => ?_)
          refine z_aload_n (pc' := 50) X dX8_saves_49 rfl rfl ?_
          refine z_mget (pc' := 53) X 0 rfl (by decide) q2063 rfl dX8_saves_50 rfl ?_
          refine z_iconst (pc' := 54) X dX8_saves_53 rfl ?_
          refine z_aload_n (pc' := 55) X dX8_saves_54 rfl rfl ?_
          refine z_mget (pc' := 58) X 1 rfl (by decide) q2064 rfl dX8_saves_55 rfl ?_
          refine z_sipush (pc' := 61) X dX8_saves_58 rfl (by decide) ?_
          refine z_aload_n (pc' := 62) X dX8_saves_61 rfl rfl ?_
          have hv62 := hR46 0 0
          refine z_mget (pc' := 65) X 2 rfl (by decide) q2065 rfl dX8_saves_62 rfl ?_
          try rw [mset_s] at hv62
          try rw [mset_s]
          refine z_imul (pc' := 66) X dX8_saves_65 rfl ?_
          refine z_S_void4 (pc' := 69) X Y_X8_lays q2155 dX8_saves_66 rfl (by decide) (Nat.le_refl _) (Nat.le_refl _) (Nat.le_of_ble_eq_true rfl) (c_X8_lays _ _ _ _ _ _ 1 2 (by decide) (by decide) (by decide) (by decide) (show 0 ≤ _ ∧ _ + 321 ≤ (1605 : Int) by omega)) (fun M66 hp66 hR66 => ?_)
          subst hp66
          refine z_aload_n (pc' := 70) X dX8_saves_69 rfl rfl ?_
          refine z_dup (pc' := 71) X rfl dX8_saves_70 rfl ?_
          have hv71 := hR66 0 0
          refine z_mget (pc' := 74) X 2 rfl (by decide) q2065 rfl dX8_saves_71 rfl ?_
          rw [mcopy_r (by decide)] at hv71
          rw [mcopy_r (r := 0) (by decide)]
          try rw [mset_s] at hv71
          try rw [mset_s]
          refine z_iconst (pc' := 75) X dX8_saves_74 rfl ?_
          refine z_iadd (pc' := 76) X dX8_saves_75 rfl ?_
          refine z_mput (pc' := 79) X 2 0 rfl (by decide) q2065 rfl rfl rfl (by first | assumption | omega) dX8_saves_76 rfl (fun hR76 => ?_)
          refine z_return X dX8_saves_79 (Nat.le_refl _) (Nat.le_refl _) (fun _ hh => ⟨_, hh, rfl, ?_⟩)
          · first | exact mSave1 ⟨hs.1, by omega⟩ | exact mSave2 (by omega)
        · refine z_aload_n (pc' := 18) X dX8_saves_17 rfl rfl ?_
          refine z_mget (pc' := 21) X 1 rfl (by decide) q2064 rfl dX8_saves_18 rfl ?_
          refine z_iload_n (pc' := 22) X dX8_saves_21 rfl rfl ?_
          refine z_aload_n (pc' := 23) X dX8_saves_22 rfl rfl ?_
          refine z_mget (pc' := 26) X 1 rfl (by decide) q2064 rfl dX8_saves_23 rfl ?_
          refine z_iload_n (pc' := 27) X dX8_saves_26 rfl rfl ?_
          refine z_sipush (pc' := 30) X dX8_saves_27 rfl (by decide) ?_
          refine z_iadd (pc' := 31) X dX8_saves_30 rfl ?_
          refine z_mld (pc' := 32) X (r := 2) (by decide) (show 0 ≤ _ ∧ _ < (1605 : Int) by omega) dX8_saves_31 rfl (fun hv31 => ?_)
          refine z_mst (pc' := 33) X (r := 2) (by decide) (show 0 ≤ _ ∧ _ < (1605 : Int) by omega) (by first | assumption | omega) dX8_saves_32 rfl (fun hR32 => ?_)
          refine z_iinc (pc' := 36) X dX8_saves_33 rfl (by decide) rfl rfl ?_
          dsimp only [List.set]
          refine z_goto (tgt := 10) X dX8_saves_36 (by decide) ?_
          rw [hkc, mdown_s (by omega) (by omega)]
          refine ZP.wk (L' := [some (vR (ma 0)), some (vI _)]) (And.intro rfl (And.intro rfl (trivial))) ?_
          exact ih10 (c + 1) _ (by omega) (by omega) (by omega)
    rw [← mdown_0 (M := M) (r := 2) (e := 0) (w := 321)]
    refine ZP.wk (L' := [some (vR (ma 0)), some (vI _)]) (And.intro rfl (And.intro rfl (trivial))) ?_
    exact loop10 _ 0 _ (by omega) (by omega) (Nat.lt_succ_self _)
def mT (N : Int → Int) : Int := N 8 + N 9 + N 10 + N 11
def mQuo (N : Int → Int) (all j : Int) : Int := all * N (8 + j) / mT N
def mRem (N : Int → Int) (all j : Int) : Int := all * N (8 + j) % mT N
def mLeft (N : Int → Int) (all : Int) : Int := all - zsum (fun j => mQuo N all j) 4
def mAhead (N : Int → Int) (all j : Int) : Int := zsum (fun o => if mRem N all j < mRem N all o ∨ (mRem N all o = mRem N all j ∧ o < j) then 1 else 0) 4
def mShare (N : Int → Int) (all j : Int) : Int := mQuo N all j + (if mAhead N all j < mLeft N all then 1 else 0)
def mShA (M : MM) (all k : Int) : MM := fun r j => if r = 5 ∧ 0 ≤ j ∧ j < k then mQuo (M 1) all j else M r j
def mShB (M : MM) (all k : Int) : MM := fun r j => if r = 5 ∧ 0 ≤ j ∧ j < 4 then (if j < k then mShare (M 1) all j else mQuo (M 1) all j) else M r j
theorem mShA_0 {M : MM} {all : Int} : mShA M all 0 = M := by
  funext r j
  unfold mShA
  rw [if_neg (by omega)]
theorem mShA_s {M : MM} {all k : Int} (hk : 0 ≤ k) : mset (mShA M all k) 5 k (mQuo (M 1) all k) = mShA M all (k + 1) := by
  funext r j
  by_cases h : r ≠ 5 ∨ j ≠ k
  · rw [mset_n h]
    unfold mShA
    by_cases h2 : r = 5 ∧ 0 ≤ j ∧ j < k
    · rw [if_pos h2, if_pos ⟨h2.1, h2.2.1, by omega⟩]
    · rw [if_neg h2, if_neg (fun q => h2 ⟨q.1, q.2.1, by rcases h with h | h <;> omega⟩)]
  · have h1 : r = 5 := Classical.byContradiction fun q => h (Or.inl q)
    have h2 : j = k := Classical.byContradiction fun q => h (Or.inr q)
    subst h1 h2
    rw [mset_s]
    exact (if_pos ⟨rfl, by omega, by omega⟩).symm
theorem mShB_0 {M : MM} {all : Int} : mShB M all 0 = mShA M all 4 := by
  funext r j
  unfold mShB mShA
  by_cases h : r = 5 ∧ 0 ≤ j ∧ j < 4
  · rw [if_pos h, if_pos h, if_neg (by omega)]
  · rw [if_neg h, if_neg h]
theorem mShB_s {M : MM} {all k : Int} (hk : 0 ≤ k ∧ k < 4) : mset (mShB M all k) 5 k (mShare (M 1) all k) = mShB M all (k + 1) := by
  funext r j
  by_cases h : r ≠ 5 ∨ j ≠ k
  · rw [mset_n h]
    unfold mShB
    by_cases h2 : r = 5 ∧ 0 ≤ j ∧ j < 4
    · rw [if_pos h2, if_pos h2]
      by_cases h3 : j < k
      · rw [if_pos h3, if_pos (by omega)]
      · rw [if_neg h3, if_neg (by rcases h with h | h <;> omega)]
    · rw [if_neg h2, if_neg h2]
  · have h1 : r = 5 := Classical.byContradiction fun q => h (Or.inl q)
    have h2 : j = k := Classical.byContradiction fun q => h (Or.inr q)
    subst h1 h2
    rw [mset_s]
    unfold mShB
    rw [if_pos ⟨rfl, by omega, by omega⟩, if_pos (by omega)]
theorem mQuo_b {N : Int → Int} (h : okN N) {all j : Int} (ha : 1 ≤ all ∧ all ≤ 200) (hj : 0 ≤ j ∧ j < 4) : (0 ≤ all * N (8 + j) ∧ all * N (8 + j) ≤ 400000000) ∧ (0 ≤ mQuo N all j ∧ mQuo N all j ≤ all) ∧ (0 ≤ mRem N all j ∧ mRem N all j < mT N) ∧ (1 ≤ mT N ∧ mT N ≤ 8000000) := by
  obtain ⟨-, -, h1, -⟩ := h
  have hT : 1 ≤ mT N ∧ mT N ≤ 8000000 := by unfold mT; omega
  have hN : 0 ≤ N (8 + j) ∧ N (8 + j) ≤ 2000000 ∧ N (8 + j) ≤ mT N := by
    unfold mT
    obtain rfl | rfl | rfl | rfl : j = 0 ∨ j = 1 ∨ j = 2 ∨ j = 3 := by omega
    · rw [show (8 : Int) + 0 = 8 by omega]; omega
    · rw [show (8 : Int) + 1 = 9 by omega]; omega
    · rw [show (8 : Int) + 2 = 10 by omega]; omega
    · rw [show (8 : Int) + 3 = 11 by omega]; omega
  have hm := mulb (a := all) (b := N (8 + j)) (A := 200) (B := 2000000) (by omega) (by omega)
  refine ⟨by omega, ⟨Int.ediv_nonneg hm.1 (by omega), ?_⟩, ⟨Int.emod_nonneg _ (by omega), Int.emod_lt_of_pos _ (by omega)⟩, hT⟩
  unfold mQuo
  have h2 : all * N (8 + j) ≤ all * mT N := Int.mul_le_mul_of_nonneg_left hN.2.2 (by omega)
  exact Int.le_trans (Int.ediv_le_ediv (by omega) h2) (by rw [Int.mul_ediv_cancel _ (by omega)]; exact Int.le_refl _)
theorem Y_X8_shares : zYV yX8_shares cX8_shares 9 none 1 := ⟨⟨q2226, qs58, q132, q2227⟩, by decide +kernel, by decide⟩
set_option maxRecDepth 100000 in
theorem c_X8_shares (l : Launch) (g : zG) (ma : Nat → Nat) (M : MM) (all : Int) (ha : 1 ≤ all ∧ all ≤ 200) (hI : mI M) : mVoid l yX8_shares cX8_shares 9 1 [vR (ma 0), vI all] g ma M (fun M' => M' = mShB M all 4) := by
  refine mVoid.mk (L0 := [some (vR (ma 0)), some (vI all), none, none, none, none, none, none, none]) (by decide) rfl (Nat.le_of_ble_eq_true rfl) rfl (fun C h hg hl hR X => ?_)
  subst hg hl
  have hI1 := mI_r hI
  have hT : M 1 8 + M 1 9 + M 1 10 + M 1 11 = mT (M 1) := rfl
  have hq0 := mQuo_b hI ha (j := 0) (by omega)
  refine z_aload_n (pc' := 1) X dX8_shares_0 rfl rfl ?_
  refine z_mget (pc' := 4) X 0 rfl (by decide) q2063 rfl dX8_shares_1 rfl ?_
  refine z_bipush (pc' := 6) X dX8_shares_4 rfl (by decide) ?_
  refine z_mld (pc' := 7) X (r := 1) (by decide) (show 0 ≤ _ ∧ _ < (321 : Int) by omega) dX8_shares_6 rfl (fun hv6 => ?_)
  refine z_aload_n (pc' := 8) X dX8_shares_7 rfl rfl ?_
  refine z_mget (pc' := 11) X 0 rfl (by decide) q2063 rfl dX8_shares_8 rfl ?_
  refine z_bipush (pc' := 13) X dX8_shares_11 rfl (by decide) ?_
  refine z_mld (pc' := 14) X (r := 1) (by decide) (show 0 ≤ _ ∧ _ < (321 : Int) by omega) dX8_shares_13 rfl (fun hv13 => ?_)
  refine z_iadd (pc' := 15) X dX8_shares_14 rfl ?_
  refine z_aload_n (pc' := 16) X dX8_shares_15 rfl rfl ?_
  refine z_mget (pc' := 19) X 0 rfl (by decide) q2063 rfl dX8_shares_16 rfl ?_
  refine z_bipush (pc' := 21) X dX8_shares_19 rfl (by decide) ?_
  refine z_mld (pc' := 22) X (r := 1) (by decide) (show 0 ≤ _ ∧ _ < (321 : Int) by omega) dX8_shares_21 rfl (fun hv21 => ?_)
  refine z_iadd (pc' := 23) X dX8_shares_22 rfl ?_
  refine z_aload_n (pc' := 24) X dX8_shares_23 rfl rfl ?_
  refine z_mget (pc' := 27) X 0 rfl (by decide) q2063 rfl dX8_shares_24 rfl ?_
  refine z_bipush (pc' := 29) X dX8_shares_27 rfl (by decide) ?_
  refine z_mld (pc' := 30) X (r := 1) (by decide) (show 0 ≤ _ ∧ _ < (321 : Int) by omega) dX8_shares_29 rfl (fun hv29 => ?_)
  refine z_iadd (pc' := 31) X dX8_shares_30 rfl ?_
  rw [hT]
  refine z_istore_n (pc' := 32) X dX8_shares_31 rfl (by decide) rfl ?_
  dsimp only [List.set]
  refine z_iload_n (pc' := 33) X dX8_shares_32 rfl rfl ?_
  refine z_istore_n (pc' := 34) X dX8_shares_33 rfl (by decide) rfl ?_
  dsimp only [List.set]
  refine z_iconst (pc' := 35) X dX8_shares_34 rfl ?_
  refine z_istore (pc' := 37) X dX8_shares_35 rfl (by decide) rfl ?_
  dsimp only [List.set]
  have loop37 : ∀ (N : Nat) (t k : Int), (0 ≤ k ∧ k ≤ 4) → (t = all - zsum (fun j => mQuo (M 1) all j) k) → (all - 200 * k ≤ t ∧ t ≤ all) → (4 - k).toNat < N → ZP C 9 (mF ma h (mShA M all k)) 0 0 [some (vR (ma 0)), some (vI all), some (vI (mT (M 1))), some (vI t), some (vI k), none, none, none, none] 37 [] := by
    intro N
    induction N with
    | zero => intro t k hk ht hbt hN; exact absurd hN (Nat.not_lt_zero _)
    | succ N ih37 =>
      intro t k hk ht hbt hN
      refine ZP.fact (P := mR (mShA M all k)) (fun _ h => h.1.2.2.2) (fun hR37 => ?_)
      refine z_iload (pc' := 39) X dX8_shares_37 rfl rfl ?_
      refine z_iconst (pc' := 40) X dX8_shares_39 rfl ?_
      refine z_icmp_ge (tgt := 80) (pc' := 43) X (by first | assumption | omega) (by first | assumption | omega) dX8_shares_40 rfl (by decide) (fun c40 => ?_) (fun c40 => ?_)
      · obtain rfl : k = 4 := by omega
        obtain rfl : t = mLeft (M 1) all := ht
        refine z_iconst (pc' := 81) X dX8_shares_80 rfl ?_
        refine z_istore (pc' := 83) X dX8_shares_81 rfl (by decide) rfl ?_
        dsimp only [List.set]
        have loop83 : ∀ (N : Nat) (k : Int), (0 ≤ k ∧ k ≤ 4) → (4 - k).toNat < N → ZP C 9 (mF ma h (mShB M all k)) 0 0 [some (vR (ma 0)), some (vI all), some (vI (mT (M 1))), some (vI (mLeft (M 1) all)), some (vI k), none, none, none, none] 83 [] := by
          intro N
          induction N with
          | zero => intro k hk hN; exact absurd hN (Nat.not_lt_zero _)
          | succ N ih83 =>
            intro k hk hN
            refine ZP.fact (P := mR (mShB M all k)) (fun _ h => h.1.2.2.2) (fun hR83 => ?_)
            refine z_iload (pc' := 85) X dX8_shares_83 rfl rfl ?_
            refine z_iconst (pc' := 86) X dX8_shares_85 rfl ?_
            refine z_icmp_ge (tgt := 197) (pc' := 89) X (by first | assumption | omega) (by first | assumption | omega) dX8_shares_86 rfl (by decide) (fun c86 => ?_) (fun c86 => ?_)
            · refine z_return X dX8_shares_197 (Nat.le_refl _) (Nat.le_refl _) (fun _ hh => ⟨_, hh, rfl, ?_⟩)
              · rw [show k = 4 by omega]
            · have hq := mQuo_b hI ha (j := k) (by omega)
              have e99 : mShB M all k 1 (8 + k) = M 1 (8 + k) := if_neg (by omega)
              refine z_iload_n (pc' := 90) X dX8_shares_89 rfl rfl ?_
              refine z_aload_n (pc' := 91) X dX8_shares_90 rfl rfl ?_
              refine z_mget (pc' := 94) X 0 rfl (by decide) q2063 rfl dX8_shares_91 rfl ?_
              refine z_bipush (pc' := 96) X dX8_shares_94 rfl (by decide) ?_
              refine z_iload (pc' := 98) X dX8_shares_96 rfl rfl ?_
              refine z_iadd (pc' := 99) X dX8_shares_98 rfl ?_
              refine z_mld (pc' := 100) X (r := 1) (by decide) (show 0 ≤ _ ∧ _ < (321 : Int) by omega) dX8_shares_99 rfl (fun hv99 => ?_)
              rw [e99]
              refine z_imul (pc' := 101) X dX8_shares_100 rfl ?_
              refine z_iload_n (pc' := 102) X dX8_shares_101 rfl rfl ?_
              refine z_iremp (pc' := 103) X (by omega) ⟨by omega, by omega⟩ dX8_shares_102 rfl ?_
              rw [show all * M 1 (8 + k) % mT (M 1) = mRem (M 1) all k from rfl]
              refine z_istore (pc' := 105) X dX8_shares_103 rfl (by decide) rfl ?_
              dsimp only [List.set]
              refine z_iconst (pc' := 106) X dX8_shares_105 rfl ?_
              refine z_istore (pc' := 108) X dX8_shares_106 rfl (by decide) rfl ?_
              dsimp only [List.set]
              refine z_iconst (pc' := 109) X dX8_shares_108 rfl ?_
              refine z_istore (pc' := 111) X dX8_shares_109 rfl (by decide) rfl ?_
              dsimp only [List.set]
              have loop111 : ∀ (N : Nat) (a o : Int), (0 ≤ o ∧ o ≤ 4) → (a = zsum (fun o => if mRem (M 1) all k < mRem (M 1) all o ∨ (mRem (M 1) all o = mRem (M 1) all k ∧ o < k) then 1 else 0) o) → (0 ≤ a ∧ a ≤ o) → (4 - o).toNat < N → ZP C 9 (mF ma h (mShB M all k)) 0 0 [some (vR (ma 0)), some (vI all), some (vI (mT (M 1))), some (vI (mLeft (M 1) all)), some (vI k), some (vI (mRem (M 1) all k)), some (vI a), some (vI o), none] 111 [] := by
                intro N
                induction N with
                | zero => intro a o ho hao hba hN; exact absurd hN (Nat.not_lt_zero _)
                | succ N ih111 =>
                  intro a o ho hao hba hN
                  refine ZP.fact (P := mR (mShB M all k)) (fun _ h => h.1.2.2.2) (fun hR111 => ?_)
                  refine z_iload (pc' := 113) X dX8_shares_111 rfl rfl ?_
                  refine z_iconst (pc' := 114) X dX8_shares_113 rfl ?_
                  refine z_icmp_ge (tgt := 170) (pc' := 117) X (by first | assumption | omega) (by first | assumption | omega) dX8_shares_114 rfl (by decide) (fun c114 => ?_) (fun c114 => ?_)
                  · obtain rfl : o = 4 := by omega
                    obtain rfl : a = mAhead (M 1) all k := hao
                    refine z_aload_n (pc' := 171) X dX8_shares_170 rfl rfl ?_
                    refine z_mget (pc' := 174) X 6 rfl (by decide) q2069 rfl dX8_shares_171 rfl ?_
                    refine z_iload (pc' := 176) X dX8_shares_174 rfl rfl ?_
                    refine z_dup2 (pc' := 177) X rfl rfl dX8_shares_176 rfl ?_
                    refine z_mld (pc' := 178) X (r := 5) (by decide) (show 0 ≤ _ ∧ _ < (4 : Int) by omega) dX8_shares_177 rfl (fun hv177 => ?_)
                    have e177 : mShB M all k 5 k = mQuo (M 1) all k := by unfold mShB; rw [if_pos (by omega), if_neg (by omega)]
                    rw [e177]
                    refine z_iload (pc' := 180) X dX8_shares_178 rfl rfl ?_
                    refine z_iload_n (pc' := 181) X dX8_shares_180 rfl rfl ?_
                    refine z_icmp_ge (tgt := 188) (pc' := 184) X (by first | assumption | omega) (by first | assumption | omega) dX8_shares_181 rfl (by decide) (fun c181 => ?_) (fun c181 => ?_)
                    · refine z_iconst (pc' := 189) X dX8_shares_188 rfl ?_
                      refine z_iadd (pc' := 190) X dX8_shares_189 rfl ?_
                      refine z_mst (pc' := 191) X (r := 5) (by decide) (show 0 ≤ _ ∧ _ < (4 : Int) by omega) (by first | assumption | omega) dX8_shares_190 rfl (fun hR190 => ?_)
                      (first | rw [show mQuo (M 1) all k + 1 = mShare (M 1) all k by unfold mShare; rw [if_pos (by omega)]] | rw [show mQuo (M 1) all k + 0 = mShare (M 1) all k by unfold mShare; rw [if_neg (by omega)]])
                      rw [mShB_s ⟨by omega, by omega⟩]
                      refine z_iinc (pc' := 194) X dX8_shares_191 rfl (by decide) rfl rfl ?_
                      dsimp only [List.set]
                      refine z_goto (tgt := 83) X dX8_shares_194 (by decide) ?_
                      refine ZP.wk (L' := [some (vR (ma 0)), some (vI all), some (vI (mT (M 1))), some (vI (mLeft (M 1) all)), some (vI _), none, none, none, none]) (And.intro rfl (And.intro rfl (And.intro rfl (And.intro rfl (And.intro rfl (trivial)))))) ?_
                      exact ih83 _ (by omega) (by omega)
                    · refine z_iconst (pc' := 185) X dX8_shares_184 rfl ?_
                      refine z_goto (tgt := 189) X dX8_shares_185 (by decide) ?_
                      refine z_iadd (pc' := 190) X dX8_shares_189 rfl ?_
                      refine z_mst (pc' := 191) X (r := 5) (by decide) (show 0 ≤ _ ∧ _ < (4 : Int) by omega) (by first | assumption | omega) dX8_shares_190 rfl (fun hR190 => ?_)
                      (first | rw [show mQuo (M 1) all k + 1 = mShare (M 1) all k by unfold mShare; rw [if_pos (by omega)]] | rw [show mQuo (M 1) all k + 0 = mShare (M 1) all k by unfold mShare; rw [if_neg (by omega)]])
                      rw [mShB_s ⟨by omega, by omega⟩]
                      refine z_iinc (pc' := 194) X dX8_shares_191 rfl (by decide) rfl rfl ?_
                      dsimp only [List.set]
                      refine z_goto (tgt := 83) X dX8_shares_194 (by decide) ?_
                      refine ZP.wk (L' := [some (vR (ma 0)), some (vI all), some (vI (mT (M 1))), some (vI (mLeft (M 1) all)), some (vI _), none, none, none, none]) (And.intro rfl (And.intro rfl (And.intro rfl (And.intro rfl (And.intro rfl (trivial)))))) ?_
                      exact ih83 _ (by omega) (by omega)
                  · have hqo := mQuo_b hI ha (j := o) (by omega)
                    have e127 : mShB M all k 1 (8 + o) = M 1 (8 + o) := if_neg (by omega)
                    refine z_iload_n (pc' := 118) X dX8_shares_117 rfl rfl ?_
                    refine z_aload_n (pc' := 119) X dX8_shares_118 rfl rfl ?_
                    refine z_mget (pc' := 122) X 0 rfl (by decide) q2063 rfl dX8_shares_119 rfl ?_
                    refine z_bipush (pc' := 124) X dX8_shares_122 rfl (by decide) ?_
                    refine z_iload (pc' := 126) X dX8_shares_124 rfl rfl ?_
                    refine z_iadd (pc' := 127) X dX8_shares_126 rfl ?_
                    refine z_mld (pc' := 128) X (r := 1) (by decide) (show 0 ≤ _ ∧ _ < (321 : Int) by omega) dX8_shares_127 rfl (fun hv127 => ?_)
                    rw [e127]
                    refine z_imul (pc' := 129) X dX8_shares_128 rfl ?_
                    refine z_iload_n (pc' := 130) X dX8_shares_129 rfl rfl ?_
                    refine z_iremp (pc' := 131) X (by omega) ⟨by omega, by omega⟩ dX8_shares_130 rfl ?_
                    rw [show all * M 1 (8 + o) % mT (M 1) = mRem (M 1) all o from rfl]
                    refine z_istore (pc' := 133) X dX8_shares_131 rfl (by decide) rfl ?_
                    dsimp only [List.set]
                    refine z_iload (pc' := 135) X dX8_shares_133 rfl rfl ?_
                    refine z_iload (pc' := 137) X dX8_shares_135 rfl rfl ?_
                    refine z_iload (pc' := 139) X dX8_shares_137 rfl rfl ?_
                    refine z_icmp_gt (tgt := 156) (pc' := 142) X (by first | assumption | omega) (by first | assumption | omega) dX8_shares_139 rfl (by decide) (fun c139 => ?_) (fun c139 => ?_)
                    · refine z_iconst (pc' := 157) X dX8_shares_156 rfl ?_
                      refine z_goto (tgt := 161) X dX8_shares_157 (by decide) ?_
                      refine z_iadd (pc' := 162) X dX8_shares_161 rfl ?_
                      refine z_istore (pc' := 164) X dX8_shares_162 rfl (by decide) rfl ?_
                      dsimp only [List.set]
                      refine z_iinc (pc' := 167) X dX8_shares_164 rfl (by decide) rfl rfl ?_
                      dsimp only [List.set]
                      refine z_goto (tgt := 111) X dX8_shares_167 (by decide) ?_
                      refine ZP.wk (L' := [some (vR (ma 0)), some (vI all), some (vI (mT (M 1))), some (vI (mLeft (M 1) all)), some (vI k), some (vI (mRem (M 1) all k)), some (vI _), some (vI _), none]) (And.intro rfl (And.intro rfl (And.intro rfl (And.intro rfl (And.intro rfl (And.intro rfl (And.intro rfl (And.intro rfl (trivial))))))))) ?_
                      exact ih111 _ _ (by omega) (by rw [zsum_s ho.1, ← hao]; (first | rw [if_pos (by omega)] | rw [if_neg (by omega)])) (by omega) (by omega)
                    · refine z_iload (pc' := 144) X dX8_shares_142 rfl rfl ?_
                      refine z_iload (pc' := 146) X dX8_shares_144 rfl rfl ?_
                      refine z_icmp_ne (tgt := 160) (pc' := 149) X (by first | assumption | omega) (by first | assumption | omega) dX8_shares_146 rfl (by decide) (fun c146 => ?_) (fun c146 => ?_)
                      · refine z_iconst (pc' := 161) X dX8_shares_160 rfl ?_
                        refine z_iadd (pc' := 162) X dX8_shares_161 rfl ?_
                        refine z_istore (pc' := 164) X dX8_shares_162 rfl (by decide) rfl ?_
                        dsimp only [List.set]
                        refine z_iinc (pc' := 167) X dX8_shares_164 rfl (by decide) rfl rfl ?_
                        dsimp only [List.set]
                        refine z_goto (tgt := 111) X dX8_shares_167 (by decide) ?_
                        refine ZP.wk (L' := [some (vR (ma 0)), some (vI all), some (vI (mT (M 1))), some (vI (mLeft (M 1) all)), some (vI k), some (vI (mRem (M 1) all k)), some (vI _), some (vI _), none]) (And.intro rfl (And.intro rfl (And.intro rfl (And.intro rfl (And.intro rfl (And.intro rfl (And.intro rfl (And.intro rfl (trivial))))))))) ?_
                        exact ih111 _ _ (by omega) (by rw [zsum_s ho.1, ← hao]; (first | rw [if_pos (by omega)] | rw [if_neg (by omega)])) (by omega) (by omega)
                      · refine z_iload (pc' := 151) X dX8_shares_149 rfl rfl ?_
                        refine z_iload (pc' := 153) X dX8_shares_151 rfl rfl ?_
                        refine z_icmp_ge (tgt := 160) (pc' := 156) X (by first | assumption | omega) (by first | assumption | omega) dX8_shares_153 rfl (by decide) (fun c153 => ?_) (fun c153 => ?_)
                        · refine z_iconst (pc' := 161) X dX8_shares_160 rfl ?_
                          refine z_iadd (pc' := 162) X dX8_shares_161 rfl ?_
                          refine z_istore (pc' := 164) X dX8_shares_162 rfl (by decide) rfl ?_
                          dsimp only [List.set]
                          refine z_iinc (pc' := 167) X dX8_shares_164 rfl (by decide) rfl rfl ?_
                          dsimp only [List.set]
                          refine z_goto (tgt := 111) X dX8_shares_167 (by decide) ?_
                          refine ZP.wk (L' := [some (vR (ma 0)), some (vI all), some (vI (mT (M 1))), some (vI (mLeft (M 1) all)), some (vI k), some (vI (mRem (M 1) all k)), some (vI _), some (vI _), none]) (And.intro rfl (And.intro rfl (And.intro rfl (And.intro rfl (And.intro rfl (And.intro rfl (And.intro rfl (And.intro rfl (trivial))))))))) ?_
                          exact ih111 _ _ (by omega) (by rw [zsum_s ho.1, ← hao]; (first | rw [if_pos (by omega)] | rw [if_neg (by omega)])) (by omega) (by omega)
                        · refine z_iconst (pc' := 157) X dX8_shares_156 rfl ?_
                          refine z_goto (tgt := 161) X dX8_shares_157 (by decide) ?_
                          refine z_iadd (pc' := 162) X dX8_shares_161 rfl ?_
                          refine z_istore (pc' := 164) X dX8_shares_162 rfl (by decide) rfl ?_
                          dsimp only [List.set]
                          refine z_iinc (pc' := 167) X dX8_shares_164 rfl (by decide) rfl rfl ?_
                          dsimp only [List.set]
                          refine z_goto (tgt := 111) X dX8_shares_167 (by decide) ?_
                          refine ZP.wk (L' := [some (vR (ma 0)), some (vI all), some (vI (mT (M 1))), some (vI (mLeft (M 1) all)), some (vI k), some (vI (mRem (M 1) all k)), some (vI _), some (vI _), none]) (And.intro rfl (And.intro rfl (And.intro rfl (And.intro rfl (And.intro rfl (And.intro rfl (And.intro rfl (And.intro rfl (trivial))))))))) ?_
                          exact ih111 _ _ (by omega) (by rw [zsum_s ho.1, ← hao]; (first | rw [if_pos (by omega)] | rw [if_neg (by omega)])) (by omega) (by omega)
              refine ZP.wk (L' := [some (vR (ma 0)), some (vI all), some (vI (mT (M 1))), some (vI (mLeft (M 1) all)), some (vI k), some (vI (mRem (M 1) all k)), some (vI _), some (vI _), none]) (And.intro rfl (And.intro rfl (And.intro rfl (And.intro rfl (And.intro rfl (And.intro rfl (And.intro rfl (And.intro rfl (trivial))))))))) ?_
              exact loop111 _ _ _ (by omega) (by exact (zsum_0 _).symm) (by omega) (Nat.lt_succ_self _)
        rw [← mShB_0 (M := M) (all := all)]
        refine ZP.wk (L' := [some (vR (ma 0)), some (vI all), some (vI (mT (M 1))), some (vI (mLeft (M 1) all)), some (vI _), none, none, none, none]) (And.intro rfl (And.intro rfl (And.intro rfl (And.intro rfl (And.intro rfl (trivial)))))) ?_
        exact loop83 _ _ (by omega) (Nat.lt_succ_self _)
      · have hq := mQuo_b hI ha (j := k) (by omega)
        have e59 : mShA M all k 1 (8 + k) = M 1 (8 + k) := if_neg (by omega)
        refine z_aload_n (pc' := 44) X dX8_shares_43 rfl rfl ?_
        refine z_mget (pc' := 47) X 6 rfl (by decide) q2069 rfl dX8_shares_44 rfl ?_
        refine z_iload (pc' := 49) X dX8_shares_47 rfl rfl ?_
        refine z_iload_n (pc' := 50) X dX8_shares_49 rfl rfl ?_
        refine z_aload_n (pc' := 51) X dX8_shares_50 rfl rfl ?_
        refine z_mget (pc' := 54) X 0 rfl (by decide) q2063 rfl dX8_shares_51 rfl ?_
        refine z_bipush (pc' := 56) X dX8_shares_54 rfl (by decide) ?_
        refine z_iload (pc' := 58) X dX8_shares_56 rfl rfl ?_
        refine z_iadd (pc' := 59) X dX8_shares_58 rfl ?_
        refine z_mld (pc' := 60) X (r := 1) (by decide) (show 0 ≤ _ ∧ _ < (321 : Int) by omega) dX8_shares_59 rfl (fun hv59 => ?_)
        rw [e59]
        refine z_imul (pc' := 61) X dX8_shares_60 rfl ?_
        refine z_iload_n (pc' := 62) X dX8_shares_61 rfl rfl ?_
        refine z_idivp (pc' := 63) X (by omega) ⟨by omega, by omega⟩ dX8_shares_62 rfl ?_
        rw [show all * M 1 (8 + k) / mT (M 1) = mQuo (M 1) all k from rfl]
        refine z_mst (pc' := 64) X (r := 5) (by decide) (show 0 ≤ _ ∧ _ < (4 : Int) by omega) (by first | assumption | omega) dX8_shares_63 rfl (fun hR63 => ?_)
        rw [mShA_s hk.1]
        rw [mShA_s hk.1] at hR63
        refine z_iload_n (pc' := 65) X dX8_shares_64 rfl rfl ?_
        refine z_aload_n (pc' := 66) X dX8_shares_65 rfl rfl ?_
        refine z_mget (pc' := 69) X 6 rfl (by decide) q2069 rfl dX8_shares_66 rfl ?_
        refine z_iload (pc' := 71) X dX8_shares_69 rfl rfl ?_
        refine z_mld (pc' := 72) X (r := 5) (by decide) (show 0 ≤ _ ∧ _ < (4 : Int) by omega) dX8_shares_71 rfl (fun hv71 => ?_)
        have e71 : mShA M all (k + 1) 5 k = mQuo (M 1) all k := if_pos (by omega)
        rw [e71]
        refine z_isub (pc' := 73) X dX8_shares_72 rfl ?_
        refine z_istore_n (pc' := 74) X dX8_shares_73 rfl (by decide) rfl ?_
        dsimp only [List.set]
        refine z_iinc (pc' := 77) X dX8_shares_74 rfl (by decide) rfl rfl ?_
        dsimp only [List.set]
        refine z_goto (tgt := 37) X dX8_shares_77 (by decide) ?_
        refine ZP.wk (L' := [some (vR (ma 0)), some (vI all), some (vI (mT (M 1))), some (vI _), some (vI _), none, none, none, none]) (And.intro rfl (And.intro rfl (And.intro rfl (And.intro rfl (And.intro rfl (trivial)))))) ?_
        exact ih37 _ _ (by omega) (by rw [zsum_s hk.1, ht]; omega) (by omega) (by omega)
  rw [← mShA_0 (M := M) (all := all)]
  refine ZP.wk (L' := [some (vR (ma 0)), some (vI all), some (vI (mT (M 1))), some (vI _), some (vI _), none, none, none, none]) (And.intro rfl (And.intro rfl (And.intro rfl (And.intro rfl (And.intro rfl (trivial)))))) ?_
  exact loop37 _ _ _ (by omega) (by rw [zsum_0]; omega) (by omega) (Nat.lt_succ_self _)
end M3

/-! THE MODEL: moving a bale -/
section M16
def mswp (M : MM) (a b f : Int) : MM := fun r j => if r = 1 ∧ 21 + 4 * a ≤ j ∧ j < 21 + 4 * a + f then M 1 (j + 4 * (b - a)) else if r = 1 ∧ 21 + 4 * b ≤ j ∧ j < 21 + 4 * b + f then M 1 (j + 4 * (a - b)) else M r j
theorem mswp_0 {M : MM} {a b : Int} : mswp M a b 0 = M := by
  funext r j
  unfold mswp
  rw [if_neg (by omega), if_neg (by omega)]
theorem mswp_s {M : MM} {a b f : Int} (h : a ≠ b) (hf : 0 ≤ f ∧ f < 4) : mset (mset (mswp M a b f) 1 (21 + 4 * a + f) (mB (mswp M a b f) b f)) 1 (21 + 4 * b + f) (mB (mswp M a b f) a f) = mswp M a b (f + 1) := by
  funext r j
  have e1 : mB (mswp M a b f) a f = M 1 (21 + 4 * a + f) := by
    unfold mB mswp
    rw [if_neg (by omega), if_neg (by omega)]
  have e2 : mB (mswp M a b f) b f = M 1 (21 + 4 * b + f) := by
    unfold mB mswp
    rw [if_neg (by omega), if_neg (by omega)]
  rw [e1, e2]
  by_cases hr : r = 1
  · subst hr
    by_cases h1 : j = 21 + 4 * b + f
    · subst h1
      rw [mset_s]
      unfold mswp
      rw [if_neg (by omega), if_pos ⟨rfl, by omega, by omega⟩]
      congr 1; omega
    · rw [mset_k h1]
      by_cases h2 : j = 21 + 4 * a + f
      · subst h2
        rw [mset_s]
        unfold mswp
        rw [if_pos ⟨rfl, by omega, by omega⟩]
        congr 1; omega
      · rw [mset_k h2]
        unfold mswp
        by_cases h3 : (1 : Nat) = 1 ∧ 21 + 4 * a ≤ j ∧ j < 21 + 4 * a + f
        · rw [if_pos h3, if_pos ⟨rfl, by omega, by omega⟩]
        · rw [if_neg h3, if_neg (show ¬ ((1 : Nat) = 1 ∧ 21 + 4 * a ≤ j ∧ j < 21 + 4 * a + (f + 1)) by omega)]
          by_cases h4 : (1 : Nat) = 1 ∧ 21 + 4 * b ≤ j ∧ j < 21 + 4 * b + f
          · rw [if_pos h4, if_pos ⟨rfl, by omega, by omega⟩]
          · rw [if_neg h4, if_neg (show ¬ ((1 : Nat) = 1 ∧ 21 + 4 * b ≤ j ∧ j < 21 + 4 * b + (f + 1)) by omega)]
  · rw [mset_r hr, mset_r hr]
    unfold mswp
    rw [if_neg (fun q => hr q.1), if_neg (fun q => hr q.1), if_neg (fun q => hr q.1), if_neg (fun q => hr q.1)]
theorem mswp_c {M : MM} {a b : Int} (h : a ≠ b) : mswp M a b 4 = mswp M b a 4 := by
  funext r j
  unfold mswp
  by_cases h1 : r = 1 ∧ 21 + 4 * a ≤ j ∧ j < 21 + 4 * a + 4
  · rw [if_pos h1, if_neg (by omega), if_pos h1]
  · rw [if_neg h1]
    by_cases h2 : r = 1 ∧ 21 + 4 * b ≤ j ∧ j < 21 + 4 * b + 4
    · rw [if_pos h2, if_pos h2]
    · rw [if_neg h2, if_neg h2, if_neg h1]
theorem mswp_n {M : MM} {a b f : Int} {r : Nat} (h : r ≠ 1) : mswp M a b f r = M r := funext fun j => by
  unfold mswp
  rw [if_neg (fun q => h q.1), if_neg (fun q => h q.1)]
theorem swp_at {α : Type} {D T : List α} {x y : α} {i : Nat} : (D ++ y :: x :: T)[i]? = if i = D.length then some y else if i = D.length + 1 then some x else (D ++ x :: y :: T)[i]? := by
  by_cases h1 : i = D.length
  · rw [if_pos h1, h1, app_at]
  rw [if_neg h1]
  by_cases h2 : i = D.length + 1
  · rw [if_pos h2, h2, List.getElem?_append_right (by omega), show D.length + 1 - D.length = 1 by omega]
    rfl
  rw [if_neg h2]
  by_cases h3 : i < D.length
  · rw [List.getElem?_append_left h3, List.getElem?_append_left h3]
  · rw [List.getElem?_append_right (by omega), List.getElem?_append_right (by omega)]
    obtain ⟨k, hk⟩ : ∃ k, i - D.length = k + 2 := ⟨i - D.length - 2, by omega⟩
    rw [hk]
    rfl
theorem bRep.swap {M : MM} {D T : List Bl} {x y : Bl} (h : bRep (M 1) (D ++ x :: y :: T)) : bRep (mswp M D.length (D.length + 1) 4 1) (D ++ y :: x :: T) ∧ bO (M 1) (mswp M D.length (D.length + 1) 4 1) := by
  obtain ⟨hn, hl, hh⟩ := h
  rw [List.length_append] at hl hn
  simp only [List.length_cons] at hl hn
  have o : ∀ j, (j < 21 + 4 * (D.length : Int) ∨ 21 + 4 * (D.length : Int) + 8 ≤ j) → mswp M D.length (D.length + 1) 4 1 j = M 1 j := fun j hj => by
    unfold mswp
    rw [if_neg (by omega), if_neg (by omega)]
  have ex := hh D.length x app_at
  have ey := hh (D.length + 1) y (by rw [List.getElem?_append_right (by omega), show D.length + 1 - D.length = 1 by omega]; rfl)
  have oa : ∀ w, 0 ≤ w → w < 4 → mswp M D.length (D.length + 1) 4 1 (21 + 4 * (D.length : Int) + w) = M 1 (21 + 4 * ((D.length + 1 : Nat) : Int) + w) := fun w a b => by
    unfold mswp
    rw [if_pos ⟨rfl, by omega, by omega⟩]
    congr 1; omega
  have ob : ∀ w, 0 ≤ w → w < 4 → mswp M D.length (D.length + 1) 4 1 (21 + 4 * ((D.length + 1 : Nat) : Int) + w) = M 1 (21 + 4 * (D.length : Int) + w) := fun w a b => by
    unfold mswp
    rw [if_neg (by omega), if_pos ⟨rfl, by omega, by omega⟩]
    congr 1; omega
  refine ⟨⟨?_, ?_, fun i b hi => ?_⟩, fun j a c => o j (by omega)⟩
  · rw [o 4 (by omega), List.length_append]
    simp only [List.length_cons]
    exact hn
  · rw [List.length_append]
    simp only [List.length_cons]
    exact hl
  · rw [swp_at] at hi
    by_cases h1 : i = D.length
    · rw [if_pos h1] at hi
      cases hi
      subst h1
      rw [oa 0 (by omega) (by omega), oa 1 (by omega) (by omega), oa 2 (by omega) (by omega), oa 3 (by omega) (by omega)]
      exact ey
    rw [if_neg h1] at hi
    by_cases h2 : i = D.length + 1
    · rw [if_pos h2] at hi
      cases hi
      subst h2
      rw [ob 0 (by omega) (by omega), ob 1 (by omega) (by omega), ob 2 (by omega) (by omega), ob 3 (by omega) (by omega)]
      exact ex
    rw [if_neg h2] at hi
    rw [o _ (by omega), o _ (by omega), o _ (by omega), o _ (by omega)]
    exact hh i b hi
def mvL {α : Type} (l : List α) (b : α) (i k : Int) : List α := (rmL l i).take k.toNat ++ b :: (rmL l i).drop k.toNat
theorem rmL_len {α : Type} {l : List α} {i : Int} (h : 0 ≤ i ∧ i < l.length) : ((rmL l i).length : Int) = l.length - 1 := by
  unfold rmL
  rw [List.length_append, List.length_take, List.length_drop]
  omega
theorem mvL_i {l : List Bl} {i : Int} (h : 0 ≤ i ∧ i < l.length) : mvL l (atB l i) i i = l := by
  obtain ⟨b, e, e2, e3⟩ := rmL_at h
  have eb : atB l i = b := by unfold atB; rw [e]; rfl
  unfold mvL rmL
  rw [eb, List.take_append_of_le_length (by omega), List.take_of_length_le (by omega), List.drop_append_of_le_length (by omega), List.drop_of_length_le (by omega), List.nil_append]
  exact e2.symm
theorem mvL_s {α : Type} {l : List α} {b : α} {i k : Int} (h : 0 ≤ i ∧ i < l.length) (hk : 0 ≤ k ∧ k + 1 < l.length) : ∃ D y T, (D.length : Int) = k ∧ mvL l b i k = D ++ b :: y :: T ∧ mvL l b i (k + 1) = D ++ y :: b :: T := by
  have hl := rmL_len h
  have hkl : k.toNat < (rmL l i).length := by omega
  refine ⟨(rmL l i).take k.toNat, (rmL l i)[k.toNat], (rmL l i).drop (k.toNat + 1), by rw [List.length_take]; omega, ?_, ?_⟩
  · unfold mvL
    rw [List.getElem_cons_drop]
  · unfold mvL
    rw [show (k + 1).toNat = k.toNat + 1 by omega, List.take_succ_eq_append_getElem hkl, List.append_assoc]
    rfl
theorem mv_swp {M : MM} {l : List Bl} {b : Bl} {i k d : Int} (h : 0 ≤ i ∧ i < l.length) (hk : 0 ≤ k ∧ k < l.length) (hk' : 0 ≤ k + d ∧ k + d < l.length) (hd : d = 1 ∨ d = -1) (hb : bRep (M 1) (mvL l b i k)) : bRep (mswp M k (k + d) 4 1) (mvL l b i (k + d)) ∧ bO (M 1) (mswp M k (k + d) 4 1) := by
  rcases hd with rfl | rfl
  · obtain ⟨D, y, T, e1, e2, e3⟩ := mvL_s (b := b) h (k := k) (by omega)
    rw [e2] at hb
    rw [e3, ← e1]
    exact hb.swap
  · obtain ⟨D, y, T, e1, e2, e3⟩ := mvL_s (b := b) h (k := k + -1) (by omega)
    rw [show k + -1 + 1 = k by omega] at e3
    rw [e3] at hb
    rw [e2, mswp_c (by omega)]
    have q := hb.swap
    rw [show k = (D.length : Int) + 1 by omega, show ((D.length : Int) + 1 + -1) = (D.length : Int) by omega]
    exact q
def gMov (S : St) (i j : Int) : Int := if (0 ≤ i ∧ i < S.2.1.length) ∧ (0 ≤ j ∧ j < S.2.1.length) then 0 else 1
def movS (i j : Int) (S : St) : St := (S.1, mvL S.2.1 (atB S.2.1 i) i j, S.2.2)
def movR (j : Int) (S : St) : Int := if j = (S.2.1.length : Int) - 1 then -1 else j + 1
theorem mvL_len {α : Type} {l : List α} {b : α} {i k : Int} (h : 0 ≤ i ∧ i < l.length) : (mvL l b i k).length = l.length := by
  have hl := rmL_len h
  unfold mvL
  rw [List.length_append, List.length_take, List.length_cons, List.length_drop]
  omega
theorem Y_X8_moveBale : zYV yX8_moveBale cX8_moveBale 7 (some .int) 2 := ⟨⟨q2187, q2188, q132, q2189⟩, by decide +kernel, by decide⟩
set_option maxRecDepth 100000 in
theorem c_X8_moveBale (l : Launch) (g : zG) (ma : Nat → Nat) (M : MM) (i j : Int) (A : Ab) (P Q : Int) (hi : rng i) (hj : rng j) (hA : mRep M A) (hk : okA P Q A) (hP : P ≤ 900000) (hQ : Q ≤ 9000000) : mInt l yX8_moveBale cX8_moveBale 7 (some .int) 12 [vR (ma 0), vI i, vI j] g ma M (fun r M' => outP (gMov A.1 i j) A (movR j A.1) (svA A (movS i j A.1)) r M') := by
  refine mInt.mk (L0 := [some (vR (ma 0)), some (vI i), some (vI j), none, none, none, none]) (by decide) rfl (Nat.le_of_ble_eq_true rfl) rfl (fun C h hg hl hR X => ?_)
  subst hg hl
  obtain ⟨hS, hN, hH, hT⟩ := id hA
  obtain ⟨hkS, -, -, -⟩ := id hk
  obtain ⟨⟨kc1, -, kc3, kc4, kc5⟩, kb, kp, kq⟩ := id hkS
  have hI := hk.I hA hP hQ
  have hn := mI_n hI
  have hh0 : 0 ≤ M 0 0 ∧ M 0 0 ≤ 5 := ⟨by rw [hH.1]; omega, by rw [hH.1]; have := hH.2.1; omega⟩
  have s0 := sc_at hA (j := 0) (by unfold scI; omega)
  have s1 := sc_at hA (j := 1) (by unfold scI; omega)
  refine z_aload_n (pc' := 1) X dX8_moveBale_0 rfl rfl ?_
  refine z_aload_n (pc' := 2) X dX8_moveBale_1 rfl rfl ?_
  refine z_iload_n (pc' := 3) X dX8_moveBale_2 rfl rfl ?_
  refine z_V_fun1 (pc' := 6) X rfl Y_X8_isBale q2190 dX8_moveBale_3 rfl (by decide) (Nat.le_refl _) (Nat.le_refl _) (Nat.le_of_ble_eq_true rfl) (c_X8_isBale _ _ _ _ _ (by first | assumption | omega) (by first | assumption | omega)) (fun r3 hr3 hp3 => ?_)
  refine z_if_eq (tgt := 21) (pc' := 9) X (by first | assumption | omega) dX8_moveBale_6 rfl (by decide) (fun c6 => ?_) (fun c6 => ?_)
  · refine z_iconst (pc' := 22) X dX8_moveBale_21 rfl ?_
    refine z_mput (pc' := 25) X 10 3 rfl (by decide) q2073 rfl rfl rfl (by first | assumption | omega) dX8_moveBale_22 rfl (fun hR22 => ?_)
    refine z_aload_n (pc' := 26) X dX8_moveBale_25 rfl rfl ?_
    have hv26 := hR22 0 3
    refine z_mget (pc' := 29) X 10 rfl (by decide) q2073 rfl dX8_moveBale_26 rfl ?_
    rw [mset_s]
    rw [mset_s] at hv26
    refine z_if_le (tgt := 34) (pc' := 32) X (by first | assumption | omega) dX8_moveBale_29 rfl (by decide) (fun c29 => ?_) (fun c29 => ?_)
    · exact absurd c29 (by decide)
    · refine z_iconst (pc' := 33) X dX8_moveBale_32 rfl ?_
      refine z_ireturn X dX8_moveBale_33 (Nat.le_refl _) (Nat.le_refl _) (fun _ hh => ⟨_, hh, _, rfl, ?_, ?_⟩)
      · first | assumption | omega
      · have hl4 := hS.2.1.1
        refine ⟨?_, Or.inl ⟨?_, hA.num (by decide)⟩⟩
        · rw [mset_s]; unfold gMov; (repeat' split) <;> omega
        · unfold gMov; (repeat' split) <;> omega
  · refine z_aload_n (pc' := 10) X dX8_moveBale_9 rfl rfl ?_
    refine z_iload_n (pc' := 11) X dX8_moveBale_10 rfl rfl ?_
    refine z_V_fun1 (pc' := 14) X rfl Y_X8_isBale q2190 dX8_moveBale_11 rfl (by decide) (Nat.le_refl _) (Nat.le_refl _) (Nat.le_of_ble_eq_true rfl) (c_X8_isBale _ _ _ _ _ (by first | assumption | omega) (by first | assumption | omega)) (fun r11 hr11 hp11 => ?_)
    refine z_if_eq (tgt := 21) (pc' := 17) X (by first | assumption | omega) dX8_moveBale_14 rfl (by decide) (fun c14 => ?_) (fun c14 => ?_)
    · refine z_iconst (pc' := 22) X dX8_moveBale_21 rfl ?_
      refine z_mput (pc' := 25) X 10 3 rfl (by decide) q2073 rfl rfl rfl (by first | assumption | omega) dX8_moveBale_22 rfl (fun hR22 => ?_)
      refine z_aload_n (pc' := 26) X dX8_moveBale_25 rfl rfl ?_
      have hv26 := hR22 0 3
      refine z_mget (pc' := 29) X 10 rfl (by decide) q2073 rfl dX8_moveBale_26 rfl ?_
      rw [mset_s]
      rw [mset_s] at hv26
      refine z_if_le (tgt := 34) (pc' := 32) X (by first | assumption | omega) dX8_moveBale_29 rfl (by decide) (fun c29 => ?_) (fun c29 => ?_)
      · exact absurd c29 (by decide)
      · refine z_iconst (pc' := 33) X dX8_moveBale_32 rfl ?_
        refine z_ireturn X dX8_moveBale_33 (Nat.le_refl _) (Nat.le_refl _) (fun _ hh => ⟨_, hh, _, rfl, ?_, ?_⟩)
        · first | assumption | omega
        · have hl4 := hS.2.1.1
          refine ⟨?_, Or.inl ⟨?_, hA.num (by decide)⟩⟩
          · rw [mset_s]; unfold gMov; (repeat' split) <;> omega
          · unfold gMov; (repeat' split) <;> omega
    · refine z_iconst (pc' := 18) X dX8_moveBale_17 rfl ?_
      refine z_goto (tgt := 22) X dX8_moveBale_18 (by decide) ?_
      refine z_mput (pc' := 25) X 10 3 rfl (by decide) q2073 rfl rfl rfl (by first | assumption | omega) dX8_moveBale_22 rfl (fun hR22 => ?_)
      refine z_aload_n (pc' := 26) X dX8_moveBale_25 rfl rfl ?_
      have hv26 := hR22 0 3
      refine z_mget (pc' := 29) X 10 rfl (by decide) q2073 rfl dX8_moveBale_26 rfl ?_
      rw [mset_s]
      rw [mset_s] at hv26
      refine z_if_le (tgt := 34) (pc' := 32) X (by first | assumption | omega) dX8_moveBale_29 rfl (by decide) (fun c29 => ?_) (fun c29 => ?_)
      · refine z_aload_n (pc' := 35) X dX8_moveBale_34 rfl rfl ?_
        refine z_V_void0 (pc' := 38) X rfl Y_X8_saves q2151 dX8_moveBale_35 rfl (by decide) (Nat.le_refl _) (Nat.le_refl _) (Nat.le_of_ble_eq_true rfl) (c_X8_saves _ _ _ _ (by rw [mset_k (by decide)]; exact hh0)) (fun M35 hp35 hR35 => ?_)
        have hg35 := mThr hp35
        have hA2 := (hA.num (k := 3) (by decide)).saved hp35
        have hS2 := hA2.1
        have hl4 := hS.2.1.1
        have hlen : 0 ≤ i ∧ i < (A.1.2.1.length : Int) := by omega
        have hb35 : bRep (M35 1) (mvL A.1.2.1 (atB A.1.2.1 i) i i) := by rw [mvL_i hlen]; exact hS2.2.1
        refine z_iload_n (pc' := 39) X dX8_moveBale_38 rfl rfl ?_
        refine z_iload_n (pc' := 40) X dX8_moveBale_39 rfl rfl ?_
        refine z_icmp_le (tgt := 47) (pc' := 43) X (by first | assumption | omega) (by first | assumption | omega) dX8_moveBale_40 rfl (by decide) (fun c40 => ?_) (fun c40 => ?_)
        · refine z_iconst (pc' := 48) X dX8_moveBale_47 rfl ?_
          refine z_istore_n (pc' := 49) X dX8_moveBale_48 rfl (by decide) rfl ?_
          dsimp only [List.set]
          refine z_iload_n (pc' := 50) X dX8_moveBale_49 rfl rfl ?_
          refine z_istore (pc' := 52) X dX8_moveBale_50 rfl (by decide) rfl ?_
          dsimp only [List.set]
          have loop52 : ∀ (N : Nat) (d k : Int) (Mx : MM), ((d = 1 ∧ i ≤ k ∧ k ≤ j) ∨ (d = -1 ∧ j ≤ k ∧ k ≤ i)) → (bRep (Mx 1) (mvL A.1.2.1 (atB A.1.2.1 i) i k)) → (bO (M35 1) (Mx 1)) → (∀ q, q ≠ 1 → Mx q = M35 q) → ((j - k).toNat + (k - j).toNat) < N → ZP C 7 (mF ma h (Mx)) 0 0 [some (vR (ma 0)), some (vI i), some (vI j), some (vI d), some (vI k), none, none] 52 [] := by
            intro N
            induction N with
            | zero => intro d k Mx hd hX hO hr hN; exact absurd hN (Nat.not_lt_zero _)
            | succ N ih52 =>
              intro d k Mx hd hX hO hr hN
              refine ZP.fact (P := mR (Mx)) (fun _ h => h.1.2.2.2) (fun hR52 => ?_)
              refine z_iload (pc' := 54) X dX8_moveBale_52 rfl rfl ?_
              refine z_iload_n (pc' := 55) X dX8_moveBale_54 rfl rfl ?_
              refine z_icmp_eq (tgt := 122) (pc' := 58) X (by first | assumption | omega) (by first | assumption | omega) dX8_moveBale_55 rfl (by decide) (fun c55 => ?_) (fun c55 => ?_)
              · refine z_iload_n (pc' := 123) X dX8_moveBale_122 rfl rfl ?_
                refine z_aload_n (pc' := 124) X dX8_moveBale_123 rfl rfl ?_
                refine z_mget (pc' := 127) X 0 rfl (by decide) q2063 rfl dX8_moveBale_124 rfl ?_
                refine z_iconst (pc' := 128) X dX8_moveBale_127 rfl ?_
                refine z_mld (pc' := 129) X (r := 1) (by decide) (show 0 ≤ _ ∧ _ < (321 : Int) by omega) dX8_moveBale_128 rfl (fun hv128 => ?_)
                have e128 : Mx 1 4 = (A.1.2.1.length : Int) := by rw [hX.1, mvL_len hlen]
                refine z_iconst (pc' := 130) X dX8_moveBale_129 rfl ?_
                refine z_isub (pc' := 131) X dX8_moveBale_130 rfl ?_
                refine z_icmp_ne (tgt := 138) (pc' := 134) X (by first | assumption | omega) (by first | assumption | omega) dX8_moveBale_131 rfl (by decide) (fun c131 => ?_) (fun c131 => ?_)
                · refine z_iload_n (pc' := 139) X dX8_moveBale_138 rfl rfl ?_
                  refine z_iconst (pc' := 140) X dX8_moveBale_139 rfl ?_
                  refine z_iadd (pc' := 141) X dX8_moveBale_140 rfl ?_
                  refine z_ireturn X dX8_moveBale_141 (Nat.le_refl _) (Nat.le_refl _) (fun _ hh => ⟨_, hh, _, rfl, ?_, ?_⟩)
                  · first | assumption | omega
                  · have hg0 : gMov A.1 i j = 0 := by unfold gMov; rw [if_pos (by omega)]
                    rw [hg0]
                    obtain rfl : k = j := by omega
                    refine ⟨by rw [hr 0 (by decide), hg35], Or.inr ⟨rfl, by unfold movR; (repeat' split) <;> omega, hA2.row (S' := movS i k A.1) ⟨fun x hx => ?_, hX, ?_, ?_⟩ hr⟩⟩
                    · rw [hO x (by unfold scI at hx; omega) (by unfold scI at hx; omega)]; exact hS2.1 x hx
                    · exact hS2.2.2.1.same (hO _ (by omega) (by omega)) (fun x y z => hO _ (by omega) (by omega))
                    · exact hS2.2.2.2.same (hO _ (by omega) (by omega)) (fun x y z => hO _ (by omega) (by omega))
                · refine z_iconst (pc' := 135) X dX8_moveBale_134 rfl ?_
                  refine z_goto (tgt := 141) X dX8_moveBale_135 (by decide) ?_
                  refine z_ireturn X dX8_moveBale_141 (Nat.le_refl _) (Nat.le_refl _) (fun _ hh => ⟨_, hh, _, rfl, ?_, ?_⟩)
                  · first | assumption | omega
                  · have hg0 : gMov A.1 i j = 0 := by unfold gMov; rw [if_pos (by omega)]
                    rw [hg0]
                    obtain rfl : k = j := by omega
                    refine ⟨by rw [hr 0 (by decide), hg35], Or.inr ⟨rfl, by unfold movR; (repeat' split) <;> omega, hA2.row (S' := movS i k A.1) ⟨fun x hx => ?_, hX, ?_, ?_⟩ hr⟩⟩
                    · rw [hO x (by unfold scI at hx; omega) (by unfold scI at hx; omega)]; exact hS2.1 x hx
                    · exact hS2.2.2.1.same (hO _ (by omega) (by omega)) (fun x y z => hO _ (by omega) (by omega))
                    · exact hS2.2.2.2.same (hO _ (by omega) (by omega)) (fun x y z => hO _ (by omega) (by omega))
              · refine z_iconst (pc' := 59) X dX8_moveBale_58 rfl ?_
                refine z_istore (pc' := 61) X dX8_moveBale_59 rfl (by decide) rfl ?_
                dsimp only [List.set]
                have loop61 : ∀ (N : Nat) (f : Int), (0 ≤ f ∧ f ≤ 4) → (4 - f).toNat < N → ZP C 7 (mF ma h (mswp Mx k (k + d) f)) 0 0 [some (vR (ma 0)), some (vI i), some (vI j), some (vI d), some (vI k), some (vI f), none] 61 [] := by
                  intro N
                  induction N with
                  | zero => intro f hf hN; exact absurd hN (Nat.not_lt_zero _)
                  | succ N ih61 =>
                    intro f hf hN
                    refine ZP.fact (P := mR (mswp Mx k (k + d) f)) (fun _ h => h.1.2.2.2) (fun hR61 => ?_)
                    refine z_iload (pc' := 63) X dX8_moveBale_61 rfl rfl ?_
                    refine z_iconst (pc' := 64) X dX8_moveBale_63 rfl ?_
                    refine z_icmp_ge (tgt := 113) (pc' := 67) X (by first | assumption | omega) (by first | assumption | omega) dX8_moveBale_64 rfl (by decide) (fun c64 => ?_) (fun c64 => ?_)
                    · refine z_iload (pc' := 115) X dX8_moveBale_113 rfl rfl ?_
                      refine z_iload_n (pc' := 116) X dX8_moveBale_115 rfl rfl ?_
                      refine z_iadd (pc' := 117) X dX8_moveBale_116 rfl ?_
                      refine z_istore (pc' := 119) X dX8_moveBale_117 rfl (by decide) rfl ?_
                      dsimp only [List.set]
                      refine z_goto (tgt := 52) X dX8_moveBale_119 (by decide) ?_
                      obtain rfl : f = 4 := by omega
                      have hsw := mv_swp (d := d) hlen (k := k) (by omega) (by omega) (by omega) hX
                      refine ZP.wk (L' := [some (vR (ma 0)), some (vI i), some (vI j), some (vI _), some (vI _), none, none]) (And.intro rfl (And.intro rfl (And.intro rfl (And.intro rfl (And.intro rfl (trivial)))))) ?_
                      exact ih52 _ _ _ (by omega) (by exact hsw.1) (by exact hO.tr hsw.2) (by exact fun q hq => (mswp_n hq).trans (hr q hq)) (by omega)
                    · refine z_aload_n (pc' := 68) X dX8_moveBale_67 rfl rfl ?_
                      refine z_iload (pc' := 70) X dX8_moveBale_68 rfl rfl ?_
                      refine z_iload (pc' := 72) X dX8_moveBale_70 rfl rfl ?_
                      refine z_V_fun2 (pc' := 75) X rfl Y_X8_bale q2194 dX8_moveBale_72 rfl (by decide) (Nat.le_refl _) (Nat.le_refl _) (Nat.le_of_ble_eq_true rfl) (c_X8_bale _ _ _ _ _ _ (by first | assumption | omega) (by first | assumption | omega)) (fun r72 hr72 hp72 => ?_)
                      subst hp72
                      refine z_istore (pc' := 77) X dX8_moveBale_75 rfl (by decide) rfl ?_
                      dsimp only [List.set]
                      refine z_aload_n (pc' := 78) X dX8_moveBale_77 rfl rfl ?_
                      refine z_iload (pc' := 80) X dX8_moveBale_78 rfl rfl ?_
                      refine z_iload (pc' := 82) X dX8_moveBale_80 rfl rfl ?_
                      refine z_aload_n (pc' := 83) X dX8_moveBale_82 rfl rfl ?_
                      refine z_iload (pc' := 85) X dX8_moveBale_83 rfl rfl ?_
                      refine z_iload_n (pc' := 86) X dX8_moveBale_85 rfl rfl ?_
                      refine z_iadd (pc' := 87) X dX8_moveBale_86 rfl ?_
                      refine z_iload (pc' := 89) X dX8_moveBale_87 rfl rfl ?_
                      refine z_V_fun2 (pc' := 92) X rfl Y_X8_bale q2194 dX8_moveBale_89 rfl (by decide) (Nat.le_refl _) (Nat.le_refl _) (Nat.le_of_ble_eq_true rfl) (c_X8_bale _ _ _ _ _ _ (by first | assumption | omega) (by first | assumption | omega)) (fun r89 hr89 hp89 => ?_)
                      subst hp89
                      refine z_V_void3 (pc' := 95) X rfl Y_X8_lay q2162 dX8_moveBale_92 rfl (by decide) (Nat.le_refl _) (Nat.le_refl _) (Nat.le_of_ble_eq_true rfl) (c_X8_lay _ _ _ _ _ _ _ (by first | assumption | omega) (by first | assumption | omega) (by first | assumption | omega)) (fun M92 hp92 hR92 => ?_)
                      subst hp92
                      refine z_aload_n (pc' := 96) X dX8_moveBale_95 rfl rfl ?_
                      refine z_iload (pc' := 98) X dX8_moveBale_96 rfl rfl ?_
                      refine z_iload_n (pc' := 99) X dX8_moveBale_98 rfl rfl ?_
                      refine z_iadd (pc' := 100) X dX8_moveBale_99 rfl ?_
                      refine z_iload (pc' := 102) X dX8_moveBale_100 rfl rfl ?_
                      refine z_iload (pc' := 104) X dX8_moveBale_102 rfl rfl ?_
                      refine z_V_void3 (pc' := 107) X rfl Y_X8_lay q2162 dX8_moveBale_104 rfl (by decide) (Nat.le_refl _) (Nat.le_refl _) (Nat.le_of_ble_eq_true rfl) (c_X8_lay _ _ _ _ _ _ _ (by first | assumption | omega) (by first | assumption | omega) (by first | assumption | omega)) (fun M104 hp104 hR104 => ?_)
                      subst hp104
                      refine z_iinc (pc' := 110) X dX8_moveBale_107 rfl (by decide) rfl rfl ?_
                      dsimp only [List.set]
                      refine z_goto (tgt := 61) X dX8_moveBale_110 (by decide) ?_
                      rw [mswp_s (by omega) (by omega)]
                      refine ZP.wk (L' := [some (vR (ma 0)), some (vI i), some (vI j), some (vI d), some (vI k), some (vI _), none]) (And.intro rfl (And.intro rfl (And.intro rfl (And.intro rfl (And.intro rfl (And.intro rfl (trivial))))))) ?_
                      exact ih61 _ (by omega) (by omega)
                refine ZP.imp (Φ' := mF ma h (mswp Mx k (k + d) 0)) (fun _ hx => by rw [mswp_0]; exact hx) ?_
                refine ZP.wk (L' := [some (vR (ma 0)), some (vI i), some (vI j), some (vI d), some (vI k), some (vI _), none]) (And.intro rfl (And.intro rfl (And.intro rfl (And.intro rfl (And.intro rfl (And.intro rfl (trivial))))))) ?_
                exact loop61 _ _ (by decide) (Nat.lt_succ_self _)
          refine ZP.wk (L' := [some (vR (ma 0)), some (vI i), some (vI j), some (vI _), some (vI _), none, none]) (And.intro rfl (And.intro rfl (And.intro rfl (And.intro rfl (And.intro rfl (trivial)))))) ?_
          exact loop52 _ _ _ _ (by omega) (by exact hb35) (by exact bO.rf) (by exact fun _ _ => rfl) (Nat.lt_succ_self _)
        · refine z_iconst (pc' := 44) X dX8_moveBale_43 rfl ?_
          refine z_goto (tgt := 48) X dX8_moveBale_44 (by decide) ?_
          refine z_istore_n (pc' := 49) X dX8_moveBale_48 rfl (by decide) rfl ?_
          dsimp only [List.set]
          refine z_iload_n (pc' := 50) X dX8_moveBale_49 rfl rfl ?_
          refine z_istore (pc' := 52) X dX8_moveBale_50 rfl (by decide) rfl ?_
          dsimp only [List.set]
          have loop52 : ∀ (N : Nat) (d k : Int) (Mx : MM), ((d = 1 ∧ i ≤ k ∧ k ≤ j) ∨ (d = -1 ∧ j ≤ k ∧ k ≤ i)) → (bRep (Mx 1) (mvL A.1.2.1 (atB A.1.2.1 i) i k)) → (bO (M35 1) (Mx 1)) → (∀ q, q ≠ 1 → Mx q = M35 q) → ((j - k).toNat + (k - j).toNat) < N → ZP C 7 (mF ma h (Mx)) 0 0 [some (vR (ma 0)), some (vI i), some (vI j), some (vI d), some (vI k), none, none] 52 [] := by
            intro N
            induction N with
            | zero => intro d k Mx hd hX hO hr hN; exact absurd hN (Nat.not_lt_zero _)
            | succ N ih52 =>
              intro d k Mx hd hX hO hr hN
              refine ZP.fact (P := mR (Mx)) (fun _ h => h.1.2.2.2) (fun hR52 => ?_)
              refine z_iload (pc' := 54) X dX8_moveBale_52 rfl rfl ?_
              refine z_iload_n (pc' := 55) X dX8_moveBale_54 rfl rfl ?_
              refine z_icmp_eq (tgt := 122) (pc' := 58) X (by first | assumption | omega) (by first | assumption | omega) dX8_moveBale_55 rfl (by decide) (fun c55 => ?_) (fun c55 => ?_)
              · refine z_iload_n (pc' := 123) X dX8_moveBale_122 rfl rfl ?_
                refine z_aload_n (pc' := 124) X dX8_moveBale_123 rfl rfl ?_
                refine z_mget (pc' := 127) X 0 rfl (by decide) q2063 rfl dX8_moveBale_124 rfl ?_
                refine z_iconst (pc' := 128) X dX8_moveBale_127 rfl ?_
                refine z_mld (pc' := 129) X (r := 1) (by decide) (show 0 ≤ _ ∧ _ < (321 : Int) by omega) dX8_moveBale_128 rfl (fun hv128 => ?_)
                have e128 : Mx 1 4 = (A.1.2.1.length : Int) := by rw [hX.1, mvL_len hlen]
                refine z_iconst (pc' := 130) X dX8_moveBale_129 rfl ?_
                refine z_isub (pc' := 131) X dX8_moveBale_130 rfl ?_
                refine z_icmp_ne (tgt := 138) (pc' := 134) X (by first | assumption | omega) (by first | assumption | omega) dX8_moveBale_131 rfl (by decide) (fun c131 => ?_) (fun c131 => ?_)
                · refine z_iload_n (pc' := 139) X dX8_moveBale_138 rfl rfl ?_
                  refine z_iconst (pc' := 140) X dX8_moveBale_139 rfl ?_
                  refine z_iadd (pc' := 141) X dX8_moveBale_140 rfl ?_
                  refine z_ireturn X dX8_moveBale_141 (Nat.le_refl _) (Nat.le_refl _) (fun _ hh => ⟨_, hh, _, rfl, ?_, ?_⟩)
                  · first | assumption | omega
                  · have hg0 : gMov A.1 i j = 0 := by unfold gMov; rw [if_pos (by omega)]
                    rw [hg0]
                    obtain rfl : k = j := by omega
                    refine ⟨by rw [hr 0 (by decide), hg35], Or.inr ⟨rfl, by unfold movR; (repeat' split) <;> omega, hA2.row (S' := movS i k A.1) ⟨fun x hx => ?_, hX, ?_, ?_⟩ hr⟩⟩
                    · rw [hO x (by unfold scI at hx; omega) (by unfold scI at hx; omega)]; exact hS2.1 x hx
                    · exact hS2.2.2.1.same (hO _ (by omega) (by omega)) (fun x y z => hO _ (by omega) (by omega))
                    · exact hS2.2.2.2.same (hO _ (by omega) (by omega)) (fun x y z => hO _ (by omega) (by omega))
                · refine z_iconst (pc' := 135) X dX8_moveBale_134 rfl ?_
                  refine z_goto (tgt := 141) X dX8_moveBale_135 (by decide) ?_
                  refine z_ireturn X dX8_moveBale_141 (Nat.le_refl _) (Nat.le_refl _) (fun _ hh => ⟨_, hh, _, rfl, ?_, ?_⟩)
                  · first | assumption | omega
                  · have hg0 : gMov A.1 i j = 0 := by unfold gMov; rw [if_pos (by omega)]
                    rw [hg0]
                    obtain rfl : k = j := by omega
                    refine ⟨by rw [hr 0 (by decide), hg35], Or.inr ⟨rfl, by unfold movR; (repeat' split) <;> omega, hA2.row (S' := movS i k A.1) ⟨fun x hx => ?_, hX, ?_, ?_⟩ hr⟩⟩
                    · rw [hO x (by unfold scI at hx; omega) (by unfold scI at hx; omega)]; exact hS2.1 x hx
                    · exact hS2.2.2.1.same (hO _ (by omega) (by omega)) (fun x y z => hO _ (by omega) (by omega))
                    · exact hS2.2.2.2.same (hO _ (by omega) (by omega)) (fun x y z => hO _ (by omega) (by omega))
              · refine z_iconst (pc' := 59) X dX8_moveBale_58 rfl ?_
                refine z_istore (pc' := 61) X dX8_moveBale_59 rfl (by decide) rfl ?_
                dsimp only [List.set]
                have loop61 : ∀ (N : Nat) (f : Int), (0 ≤ f ∧ f ≤ 4) → (4 - f).toNat < N → ZP C 7 (mF ma h (mswp Mx k (k + d) f)) 0 0 [some (vR (ma 0)), some (vI i), some (vI j), some (vI d), some (vI k), some (vI f), none] 61 [] := by
                  intro N
                  induction N with
                  | zero => intro f hf hN; exact absurd hN (Nat.not_lt_zero _)
                  | succ N ih61 =>
                    intro f hf hN
                    refine ZP.fact (P := mR (mswp Mx k (k + d) f)) (fun _ h => h.1.2.2.2) (fun hR61 => ?_)
                    refine z_iload (pc' := 63) X dX8_moveBale_61 rfl rfl ?_
                    refine z_iconst (pc' := 64) X dX8_moveBale_63 rfl ?_
                    refine z_icmp_ge (tgt := 113) (pc' := 67) X (by first | assumption | omega) (by first | assumption | omega) dX8_moveBale_64 rfl (by decide) (fun c64 => ?_) (fun c64 => ?_)
                    · refine z_iload (pc' := 115) X dX8_moveBale_113 rfl rfl ?_
                      refine z_iload_n (pc' := 116) X dX8_moveBale_115 rfl rfl ?_
                      refine z_iadd (pc' := 117) X dX8_moveBale_116 rfl ?_
                      refine z_istore (pc' := 119) X dX8_moveBale_117 rfl (by decide) rfl ?_
                      dsimp only [List.set]
                      refine z_goto (tgt := 52) X dX8_moveBale_119 (by decide) ?_
                      obtain rfl : f = 4 := by omega
                      have hsw := mv_swp (d := d) hlen (k := k) (by omega) (by omega) (by omega) hX
                      refine ZP.wk (L' := [some (vR (ma 0)), some (vI i), some (vI j), some (vI _), some (vI _), none, none]) (And.intro rfl (And.intro rfl (And.intro rfl (And.intro rfl (And.intro rfl (trivial)))))) ?_
                      exact ih52 _ _ _ (by omega) (by exact hsw.1) (by exact hO.tr hsw.2) (by exact fun q hq => (mswp_n hq).trans (hr q hq)) (by omega)
                    · refine z_aload_n (pc' := 68) X dX8_moveBale_67 rfl rfl ?_
                      refine z_iload (pc' := 70) X dX8_moveBale_68 rfl rfl ?_
                      refine z_iload (pc' := 72) X dX8_moveBale_70 rfl rfl ?_
                      refine z_V_fun2 (pc' := 75) X rfl Y_X8_bale q2194 dX8_moveBale_72 rfl (by decide) (Nat.le_refl _) (Nat.le_refl _) (Nat.le_of_ble_eq_true rfl) (c_X8_bale _ _ _ _ _ _ (by first | assumption | omega) (by first | assumption | omega)) (fun r72 hr72 hp72 => ?_)
                      subst hp72
                      refine z_istore (pc' := 77) X dX8_moveBale_75 rfl (by decide) rfl ?_
                      dsimp only [List.set]
                      refine z_aload_n (pc' := 78) X dX8_moveBale_77 rfl rfl ?_
                      refine z_iload (pc' := 80) X dX8_moveBale_78 rfl rfl ?_
                      refine z_iload (pc' := 82) X dX8_moveBale_80 rfl rfl ?_
                      refine z_aload_n (pc' := 83) X dX8_moveBale_82 rfl rfl ?_
                      refine z_iload (pc' := 85) X dX8_moveBale_83 rfl rfl ?_
                      refine z_iload_n (pc' := 86) X dX8_moveBale_85 rfl rfl ?_
                      refine z_iadd (pc' := 87) X dX8_moveBale_86 rfl ?_
                      refine z_iload (pc' := 89) X dX8_moveBale_87 rfl rfl ?_
                      refine z_V_fun2 (pc' := 92) X rfl Y_X8_bale q2194 dX8_moveBale_89 rfl (by decide) (Nat.le_refl _) (Nat.le_refl _) (Nat.le_of_ble_eq_true rfl) (c_X8_bale _ _ _ _ _ _ (by first | assumption | omega) (by first | assumption | omega)) (fun r89 hr89 hp89 => ?_)
                      subst hp89
                      refine z_V_void3 (pc' := 95) X rfl Y_X8_lay q2162 dX8_moveBale_92 rfl (by decide) (Nat.le_refl _) (Nat.le_refl _) (Nat.le_of_ble_eq_true rfl) (c_X8_lay _ _ _ _ _ _ _ (by first | assumption | omega) (by first | assumption | omega) (by first | assumption | omega)) (fun M92 hp92 hR92 => ?_)
                      subst hp92
                      refine z_aload_n (pc' := 96) X dX8_moveBale_95 rfl rfl ?_
                      refine z_iload (pc' := 98) X dX8_moveBale_96 rfl rfl ?_
                      refine z_iload_n (pc' := 99) X dX8_moveBale_98 rfl rfl ?_
                      refine z_iadd (pc' := 100) X dX8_moveBale_99 rfl ?_
                      refine z_iload (pc' := 102) X dX8_moveBale_100 rfl rfl ?_
                      refine z_iload (pc' := 104) X dX8_moveBale_102 rfl rfl ?_
                      refine z_V_void3 (pc' := 107) X rfl Y_X8_lay q2162 dX8_moveBale_104 rfl (by decide) (Nat.le_refl _) (Nat.le_refl _) (Nat.le_of_ble_eq_true rfl) (c_X8_lay _ _ _ _ _ _ _ (by first | assumption | omega) (by first | assumption | omega) (by first | assumption | omega)) (fun M104 hp104 hR104 => ?_)
                      subst hp104
                      refine z_iinc (pc' := 110) X dX8_moveBale_107 rfl (by decide) rfl rfl ?_
                      dsimp only [List.set]
                      refine z_goto (tgt := 61) X dX8_moveBale_110 (by decide) ?_
                      rw [mswp_s (by omega) (by omega)]
                      refine ZP.wk (L' := [some (vR (ma 0)), some (vI i), some (vI j), some (vI d), some (vI k), some (vI _), none]) (And.intro rfl (And.intro rfl (And.intro rfl (And.intro rfl (And.intro rfl (And.intro rfl (trivial))))))) ?_
                      exact ih61 _ (by omega) (by omega)
                refine ZP.imp (Φ' := mF ma h (mswp Mx k (k + d) 0)) (fun _ hx => by rw [mswp_0]; exact hx) ?_
                refine ZP.wk (L' := [some (vR (ma 0)), some (vI i), some (vI j), some (vI d), some (vI k), some (vI _), none]) (And.intro rfl (And.intro rfl (And.intro rfl (And.intro rfl (And.intro rfl (And.intro rfl (trivial))))))) ?_
                exact loop61 _ _ (by decide) (Nat.lt_succ_self _)
          refine ZP.wk (L' := [some (vR (ma 0)), some (vI i), some (vI j), some (vI _), some (vI _), none, none]) (And.intro rfl (And.intro rfl (And.intro rfl (And.intro rfl (And.intro rfl (trivial)))))) ?_
          exact loop52 _ _ _ _ (by omega) (by exact hb35) (by exact bO.rf) (by exact fun _ _ => rfl) (Nat.lt_succ_self _)
      · exact absurd c29 (by decide)
end M16

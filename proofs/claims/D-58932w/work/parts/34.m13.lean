/-! THE MODEL: calls that tell -/
section M13
def bAt (b : Bl) (w : Int) : Int := if w = 0 then b.1 else if w = 1 then b.2.1 else if w = 2 then b.2.2.1 else b.2.2.2
def pAt (b : Pl) (w : Int) : Int := if w = 0 then b.1 else if w = 1 then b.2.1 else if w = 2 then b.2.2.1 else if w = 3 then b.2.2.2.1 else b.2.2.2.2
def atP (l : List Pl) (i : Int) : Pl := (l[i.toNat]?).getD (0, 0, 0, 0, 0)
theorem bR_at {M : MM} {bs : List Bl} (h : bRep (M 1) bs) {i w : Int} (hi : 0 ≤ i ∧ i < bs.length) (hw : 0 ≤ w ∧ w < 4) : mB M i w = bAt (atB bs i) w := by
  obtain ⟨b, hb, -, -⟩ := rmL_at hi
  have e : atB bs i = b := by unfold atB; rw [hb]; rfl
  rw [e]
  obtain ⟨q0, q1, q2, q3⟩ := h.2.2 i.toNat b hb
  rw [show ((i.toNat : Nat) : Int) = i by omega] at q0 q1 q2 q3
  obtain rfl | rfl | rfl | rfl : w = 0 ∨ w = 1 ∨ w = 2 ∨ w = 3 := by omega
  · exact q0
  · exact q1
  · exact q2
  · exact q3
theorem pR_at {M : MM} {bs : List Pl} (h : pRep (M 1) bs) {i w : Int} (hi : 0 ≤ i ∧ i < bs.length) (hw : 0 ≤ w ∧ w < 5) : mP M i w = pAt (atP bs i) w := by
  obtain ⟨b, hb, -, -⟩ := rmL_at hi
  have e : atP bs i = b := by unfold atP; rw [hb]; rfl
  rw [e]
  obtain ⟨q0, q1, q2, q3, q4⟩ := h.2.2 i.toNat b hb
  rw [show ((i.toNat : Nat) : Int) = i by omega] at q0 q1 q2 q3 q4
  obtain rfl | rfl | rfl | rfl | rfl : w = 0 ∨ w = 1 ∨ w = 2 ∨ w = 3 ∨ w = 4 := by omega
  · exact q0
  · exact q1
  · exact q2
  · exact q3
  · exact q4
def gIn (lo hi v : Int) : Int := if lo ≤ v ∧ v ≤ hi then 0 else 1
def gAt (n v : Int) : Int := if 0 ≤ v ∧ v < n then 0 else 1
def gTol (c w : Int) : Int := if ¬ (0 ≤ c ∧ c ≤ 3) then 1 else if 10 ≤ w ∧ w ≤ 300 then 0 else 2
def gWhy (c w z : Int) : Int := if ¬ (0 ≤ c ∧ c ≤ 3) then 1 else if (10 ≤ w ∧ w ≤ 300) ∧ (0 ≤ z ∧ z ≤ 99) then 0 else 2
def passS (S : St) (c : Int) : Int := if S.1 0 ≤ S.1 (13 + 2 * c + 1) then S.1 (13 + 2 * c + 1) - S.1 0 + 1 else 0
def gShr (n s : Int) : Int := if (1 ≤ n ∧ n ≤ 200) ∧ (0 ≤ s ∧ s ≤ 3) then 0 else 1
def gBtn (v n : Int) : Int := if ¬ (0 ≤ v ∧ v ≤ 2) then 1 else if 1 ≤ n ∧ n ≤ 200 then 0 else 2
def gPts (S : St) (v m : Int) : Int := if ¬ ((0 ≤ v ∧ v ≤ 2) ∧ (0 ≤ m ∧ m ≤ 4)) then 1 else if S.1 (117 + 3 * v) = 0 then 2 else 0
def gMde (v m n : Int) : Int := if ¬ ((0 ≤ v ∧ v ≤ 2) ∧ (0 ≤ m ∧ m ≤ 4)) then 1 else if 1 ≤ n ∧ n ≤ 480 then 0 else 2
def gVM (v m : Int) : Int := if (0 ≤ v ∧ v ≤ 2) ∧ (0 ≤ m ∧ m ≤ 4) then 0 else 1
def gPap (a b c : Int) : Int := if (0 ≤ a ∧ a ≤ 9) ∧ (0 ≤ b ∧ b ≤ 2) ∧ (0 ≤ c ∧ c ≤ 2) then 0 else 1
/-- the most sheets, of k at most -/
def mostN (S : St) (v m : Int) : Nat → Int
  | 0 => 0
  | k + 1 => if 0 < whySS S v m ((k : Int) + 1) then mostN S v m k else (k : Int) + 1
theorem mostN_s {S : St} {v m n : Int} (h : 0 < n) : mostN S v m n.toNat = if 0 < whySS S v m n then mostN S v m (n - 1).toNat else n := by
  obtain ⟨k, rfl⟩ : ∃ k : Nat, n = (k : Int) + 1 := ⟨(n - 1).toNat, by omega⟩
  rw [show ((k : Int) + 1).toNat = k + 1 by omega, show ((k : Int) + 1 - 1).toNat = k by omega]
  rfl
def runB : List Bl → Int
  | [] => 0
  | b :: t => if b.2.2.2 ≠ -1 ∧ 20 ≤ b.2.2.1 then 1 + runB t else 0
def reachS (bs : List Bl) (i : Int) : Int := runB (bs.drop (i.toNat + 1)) + runB (bs.take i.toNat).reverse
theorem Y_X8_debtOf : zYV yX8_debtOf cX8_debtOf 2 (some .int) 1 := ⟨⟨q2399, q2400, q132, q2401⟩, by decide +kernel, by decide⟩
set_option maxRecDepth 100000 in
theorem c_X8_debtOf (l : Launch) (g : zG) (ma : Nat → Nat) (M : MM) (c : Int) (A : Ab) (P Q : Int) (hc : rng c) (hA : mRep M A) (hk : okA P Q A) (hP : P ≤ 900000) (hQ : Q ≤ 9000000) : mInt l yX8_debtOf cX8_debtOf 2 (some .int) 7 [vR (ma 0), vI c] g ma M (fun r M' => outP (gIn 0 3 c) A (A.1.1 (13 + 2 * c)) A r M') := by
  refine mInt.mk (L0 := [some (vR (ma 0)), some (vI c)]) (by decide) rfl (Nat.le_of_ble_eq_true rfl) rfl (fun C h hg hl hR X => ?_)
  subst hg hl
  obtain ⟨hS, hN, hH, hT⟩ := id hA
  obtain ⟨hkS, -, -, -⟩ := id hk
  obtain ⟨⟨kc1, -, kc3, kc4, kc5⟩, kb, kp, kq⟩ := id hkS
  have hI := hk.I hA hP hQ
  have hn := mI_n hI
  have hh0 : 0 ≤ M 0 0 ∧ M 0 0 ≤ 5 := ⟨by rw [hH.1]; omega, by rw [hH.1]; have := hH.2.1; omega⟩
  have s0 := sc_at hA (j := 0) (by unfold scI; omega)
  have s1 := sc_at hA (j := 1) (by unfold scI; omega)
  have hA0 : mRep (mset M 0 3 0) A := hA.num (by decide)
  have hS0 := hA0.1
  have hI0 : mI (mset M 0 3 0) := hk.I hA0 hP hQ
  have q4 := hS.2.1.1
  have q5 := hS.2.2.1.1
  have q6 := hS.2.2.2.1
  have p4 := hS0.2.1.1
  have p5 := hS0.2.2.1.1
  have p6 := hS0.2.2.2.1
  refine z_aload_n (pc' := 1) X dX8_debtOf_0 rfl rfl ?_
  refine z_iload_n (pc' := 2) X dX8_debtOf_1 rfl rfl ?_
  refine z_S_fun1 (pc' := 5) X Y_X8_isCarter q2120 dX8_debtOf_2 rfl (by decide) (Nat.le_refl _) (Nat.le_refl _) (Nat.le_of_ble_eq_true rfl) (fun h _ => c_X8_isCarter _ _ _ _ (by first | assumption | omega)) (fun r2 hr2 hp2 => ?_)
  refine z_if_eq (tgt := 12) (pc' := 8) X (by first | assumption | omega) dX8_debtOf_5 rfl (by decide) (fun c5 => ?_) (fun c5 => ?_)
  · refine z_iconst (pc' := 13) X dX8_debtOf_12 rfl ?_
    refine z_mput (pc' := 16) X 10 3 rfl (by decide) q2073 rfl rfl rfl (by first | assumption | omega) dX8_debtOf_13 rfl (fun hR13 => ?_)
    refine z_aload_n (pc' := 17) X dX8_debtOf_16 rfl rfl ?_
    have hv17 := hR13 0 3
    refine z_mget (pc' := 20) X 10 rfl (by decide) q2073 rfl dX8_debtOf_17 rfl ?_
    rw [mset_s]
    rw [mset_s] at hv17
    refine z_if_le (tgt := 27) (pc' := 23) X (by first | assumption | omega) dX8_debtOf_20 rfl (by decide) (fun c20 => ?_) (fun c20 => ?_)
    · exact absurd c20 (by decide)
    · refine z_iconst (pc' := 24) X dX8_debtOf_23 rfl ?_
      refine z_goto (tgt := 32) X dX8_debtOf_24 (by decide) ?_
      refine z_ireturn X dX8_debtOf_32 (Nat.le_refl _) (Nat.le_refl _) (fun _ hh => ⟨_, hh, _, rfl, ?_, ?_⟩)
      · first | assumption | omega
      · exact ⟨by rw [mset_s]; unfold gIn; (repeat' split) <;> omega, Or.inl ⟨by unfold gIn; (repeat' split) <;> omega, hA.num (by decide)⟩⟩
  · refine z_iconst (pc' := 9) X dX8_debtOf_8 rfl ?_
    refine z_goto (tgt := 13) X dX8_debtOf_9 (by decide) ?_
    refine z_mput (pc' := 16) X 10 3 rfl (by decide) q2073 rfl rfl rfl (by first | assumption | omega) dX8_debtOf_13 rfl (fun hR13 => ?_)
    refine z_aload_n (pc' := 17) X dX8_debtOf_16 rfl rfl ?_
    have hv17 := hR13 0 3
    refine z_mget (pc' := 20) X 10 rfl (by decide) q2073 rfl dX8_debtOf_17 rfl ?_
    rw [mset_s]
    rw [mset_s] at hv17
    refine z_if_le (tgt := 27) (pc' := 23) X (by first | assumption | omega) dX8_debtOf_20 rfl (by decide) (fun c20 => ?_) (fun c20 => ?_)
    · refine z_aload_n (pc' := 28) X dX8_debtOf_27 rfl rfl ?_
      refine z_iload_n (pc' := 29) X dX8_debtOf_28 rfl rfl ?_
      refine z_V_fun1 (pc' := 32) X rfl Y_X8_debt q2139 dX8_debtOf_29 rfl (by decide) (Nat.le_refl _) (Nat.le_refl _) (Nat.le_of_ble_eq_true rfl) (c_X8_debt _ _ _ _ _ (by first | assumption | omega)) (fun r29 hr29 hp29 => ?_)
      subst hp29
      refine z_ireturn X dX8_debtOf_32 (Nat.le_refl _) (Nat.le_refl _) (fun _ hh => ⟨_, hh, _, rfl, ?_, ?_⟩)
      · first | assumption | omega
      · have hg0 : gIn 0 3 c = 0 := by unfold gIn; (repeat' split) <;> omega
        rw [hg0]
        exact ⟨mset_s, Or.inr ⟨rfl, mDebt_S hS0 (by omega), hA0⟩⟩
    · exact absurd c20 (by decide)
theorem Y_X8_passLeft : zYV yX8_passLeft cX8_passLeft 2 (some .int) 1 := ⟨⟨q2403, q2404, q132, q2405⟩, by decide +kernel, by decide⟩
set_option maxRecDepth 100000 in
theorem c_X8_passLeft (l : Launch) (g : zG) (ma : Nat → Nat) (M : MM) (c : Int) (A : Ab) (P Q : Int) (hc : rng c) (hA : mRep M A) (hk : okA P Q A) (hP : P ≤ 900000) (hQ : Q ≤ 9000000) : mInt l yX8_passLeft cX8_passLeft 2 (some .int) 7 [vR (ma 0), vI c] g ma M (fun r M' => outP (gIn 0 3 c) A (passS A.1 c) A r M') := by
  refine mInt.mk (L0 := [some (vR (ma 0)), some (vI c)]) (by decide) rfl (Nat.le_of_ble_eq_true rfl) rfl (fun C h hg hl hR X => ?_)
  subst hg hl
  obtain ⟨hS, hN, hH, hT⟩ := id hA
  obtain ⟨hkS, -, -, -⟩ := id hk
  obtain ⟨⟨kc1, -, kc3, kc4, kc5⟩, kb, kp, kq⟩ := id hkS
  have hI := hk.I hA hP hQ
  have hn := mI_n hI
  have hh0 : 0 ≤ M 0 0 ∧ M 0 0 ≤ 5 := ⟨by rw [hH.1]; omega, by rw [hH.1]; have := hH.2.1; omega⟩
  have s0 := sc_at hA (j := 0) (by unfold scI; omega)
  have s1 := sc_at hA (j := 1) (by unfold scI; omega)
  have hA0 : mRep (mset M 0 3 0) A := hA.num (by decide)
  have hS0 := hA0.1
  have hI0 : mI (mset M 0 3 0) := hk.I hA0 hP hQ
  have q4 := hS.2.1.1
  have q5 := hS.2.2.1.1
  have q6 := hS.2.2.2.1
  have p4 := hS0.2.1.1
  have p5 := hS0.2.2.1.1
  have p6 := hS0.2.2.2.1
  refine z_aload_n (pc' := 1) X dX8_passLeft_0 rfl rfl ?_
  refine z_iload_n (pc' := 2) X dX8_passLeft_1 rfl rfl ?_
  refine z_S_fun1 (pc' := 5) X Y_X8_isCarter q2120 dX8_passLeft_2 rfl (by decide) (Nat.le_refl _) (Nat.le_refl _) (Nat.le_of_ble_eq_true rfl) (fun h _ => c_X8_isCarter _ _ _ _ (by first | assumption | omega)) (fun r2 hr2 hp2 => ?_)
  refine z_if_eq (tgt := 12) (pc' := 8) X (by first | assumption | omega) dX8_passLeft_5 rfl (by decide) (fun c5 => ?_) (fun c5 => ?_)
  · refine z_iconst (pc' := 13) X dX8_passLeft_12 rfl ?_
    refine z_mput (pc' := 16) X 10 3 rfl (by decide) q2073 rfl rfl rfl (by first | assumption | omega) dX8_passLeft_13 rfl (fun hR13 => ?_)
    refine z_aload_n (pc' := 17) X dX8_passLeft_16 rfl rfl ?_
    have hv17 := hR13 0 3
    refine z_mget (pc' := 20) X 10 rfl (by decide) q2073 rfl dX8_passLeft_17 rfl ?_
    rw [mset_s]
    rw [mset_s] at hv17
    refine z_if_gt (tgt := 31) (pc' := 23) X (by first | assumption | omega) dX8_passLeft_20 rfl (by decide) (fun c20 => ?_) (fun c20 => ?_)
    · refine z_iconst (pc' := 32) X dX8_passLeft_31 rfl ?_
      refine z_goto (tgt := 57) X dX8_passLeft_32 (by decide) ?_
      refine z_ireturn X dX8_passLeft_57 (Nat.le_refl _) (Nat.le_refl _) (fun _ hh => ⟨_, hh, _, rfl, ?_, ?_⟩)
      · first | assumption | omega
      · exact ⟨by rw [mset_s]; unfold gIn; (repeat' split) <;> omega, Or.inl ⟨by unfold gIn; (repeat' split) <;> omega, hA.num (by decide)⟩⟩
    · exact absurd c20 (by decide)
  · refine z_iconst (pc' := 9) X dX8_passLeft_8 rfl ?_
    refine z_goto (tgt := 13) X dX8_passLeft_9 (by decide) ?_
    refine z_mput (pc' := 16) X 10 3 rfl (by decide) q2073 rfl rfl rfl (by first | assumption | omega) dX8_passLeft_13 rfl (fun hR13 => ?_)
    refine z_aload_n (pc' := 17) X dX8_passLeft_16 rfl rfl ?_
    have hv17 := hR13 0 3
    refine z_mget (pc' := 20) X 10 rfl (by decide) q2073 rfl dX8_passLeft_17 rfl ?_
    rw [mset_s]
    rw [mset_s] at hv17
    refine z_if_gt (tgt := 31) (pc' := 23) X (by first | assumption | omega) dX8_passLeft_20 rfl (by decide) (fun c20 => ?_) (fun c20 => ?_)
    · exact absurd c20 (by decide)
    · refine z_aload_n (pc' := 24) X dX8_passLeft_23 rfl rfl ?_
      refine z_iload_n (pc' := 25) X dX8_passLeft_24 rfl rfl ?_
      have hb0 : mset M 0 3 0 1 0 = A.1.1 0 := hS0.1 _ (by unfold scI; omega)
      have hb1 : mPass (mset M 0 3 0) c = A.1.1 (13 + 2 * c + 1) := mPass_S hS0 (by omega)
      have hb2 : mset M 0 3 0 1 (13 + 2 * c + 1) = A.1.1 (13 + 2 * c + 1) := hb1
      have kb2 := kc3 c (by omega) (by omega)
      refine z_V_fun1 (pc' := 28) X rfl Y_X8_hasPass q2147 dX8_passLeft_25 rfl (by decide) (Nat.le_refl _) (Nat.le_refl _) (Nat.le_of_ble_eq_true rfl) (c_X8_hasPass _ _ _ _ _ (by first | assumption | omega)) (fun r25 hr25 hp25 => ?_)
      refine z_if_ne (tgt := 35) (pc' := 31) X (by first | assumption | omega) dX8_passLeft_28 rfl (by decide) (fun c28 => ?_) (fun c28 => ?_)
      · refine z_aload_n (pc' := 36) X dX8_passLeft_35 rfl rfl ?_
        refine z_mget (pc' := 39) X 0 rfl (by decide) q2063 rfl dX8_passLeft_36 rfl ?_
        refine z_bipush (pc' := 41) X dX8_passLeft_39 rfl (by decide) ?_
        refine z_iconst (pc' := 42) X dX8_passLeft_41 rfl ?_
        refine z_iload_n (pc' := 43) X dX8_passLeft_42 rfl rfl ?_
        refine z_imul (pc' := 44) X dX8_passLeft_43 rfl ?_
        refine z_iadd (pc' := 45) X dX8_passLeft_44 rfl ?_
        refine z_iconst (pc' := 46) X dX8_passLeft_45 rfl ?_
        refine z_iadd (pc' := 47) X dX8_passLeft_46 rfl ?_
        refine z_mld (pc' := 48) X (r := 1) (by decide) (show 0 ≤ _ ∧ _ < (321 : Int) by omega) dX8_passLeft_47 rfl (fun hv47 => ?_)
        rw [hb2]
        rw [hb2] at hv47
        refine z_aload_n (pc' := 49) X dX8_passLeft_48 rfl rfl ?_
        refine z_mget (pc' := 52) X 0 rfl (by decide) q2063 rfl dX8_passLeft_49 rfl ?_
        refine z_iconst (pc' := 53) X dX8_passLeft_52 rfl ?_
        refine z_mld (pc' := 54) X (r := 1) (by decide) (show 0 ≤ _ ∧ _ < (321 : Int) by omega) dX8_passLeft_53 rfl (fun hv53 => ?_)
        rw [hb0]
        rw [hb0] at hv53
        refine z_isub (pc' := 55) X dX8_passLeft_54 rfl ?_
        refine z_iconst (pc' := 56) X dX8_passLeft_55 rfl ?_
        refine z_iadd (pc' := 57) X dX8_passLeft_56 rfl ?_
        refine z_ireturn X dX8_passLeft_57 (Nat.le_refl _) (Nat.le_refl _) (fun _ hh => ⟨_, hh, _, rfl, ?_, ?_⟩)
        · first | assumption | omega
        · have hg0 : gIn 0 3 c = 0 := by unfold gIn; (repeat' split) <;> omega
          rw [hg0]
          exact ⟨mset_s, Or.inr ⟨rfl, by unfold passS; rw [hb1, hb0] at *; first | rw [if_pos (by omega)] | rw [if_neg (by omega)], hA0⟩⟩
      · refine z_iconst (pc' := 32) X dX8_passLeft_31 rfl ?_
        refine z_goto (tgt := 57) X dX8_passLeft_32 (by decide) ?_
        refine z_ireturn X dX8_passLeft_57 (Nat.le_refl _) (Nat.le_refl _) (fun _ hh => ⟨_, hh, _, rfl, ?_, ?_⟩)
        · first | assumption | omega
        · have hg0 : gIn 0 3 c = 0 := by unfold gIn; (repeat' split) <;> omega
          rw [hg0]
          exact ⟨mset_s, Or.inr ⟨rfl, by unfold passS; rw [hb1, hb0] at *; first | rw [if_pos (by omega)] | rw [if_neg (by omega)], hA0⟩⟩
theorem Y_X8_tollFor : zYV yX8_tollFor cX8_tollFor 3 (some .int) 2 := ⟨⟨q2407, q2408, q132, q2409⟩, by decide +kernel, by decide⟩
set_option maxRecDepth 100000 in
theorem c_X8_tollFor (l : Launch) (g : zG) (ma : Nat → Nat) (M : MM) (c w : Int) (A : Ab) (P Q : Int) (hc : rng c) (hw : rng w) (hA : mRep M A) (hk : okA P Q A) (hP : P ≤ 900000) (hQ : Q ≤ 9000000) : mInt l yX8_tollFor cX8_tollFor 3 (some .int) 7 [vR (ma 0), vI c, vI w] g ma M (fun r M' => outP (gTol c w) A (tollS A.1 c w) A r M') := by
  refine mInt.mk (L0 := [some (vR (ma 0)), some (vI c), some (vI w)]) (by decide) rfl (Nat.le_of_ble_eq_true rfl) rfl (fun C h hg hl hR X => ?_)
  subst hg hl
  obtain ⟨hS, hN, hH, hT⟩ := id hA
  obtain ⟨hkS, -, -, -⟩ := id hk
  obtain ⟨⟨kc1, -, kc3, kc4, kc5⟩, kb, kp, kq⟩ := id hkS
  have hI := hk.I hA hP hQ
  have hn := mI_n hI
  have hh0 : 0 ≤ M 0 0 ∧ M 0 0 ≤ 5 := ⟨by rw [hH.1]; omega, by rw [hH.1]; have := hH.2.1; omega⟩
  have s0 := sc_at hA (j := 0) (by unfold scI; omega)
  have s1 := sc_at hA (j := 1) (by unfold scI; omega)
  have hA0 : mRep (mset M 0 3 0) A := hA.num (by decide)
  have hS0 := hA0.1
  have hI0 : mI (mset M 0 3 0) := hk.I hA0 hP hQ
  have q4 := hS.2.1.1
  have q5 := hS.2.2.1.1
  have q6 := hS.2.2.2.1
  have p4 := hS0.2.1.1
  have p5 := hS0.2.2.1.1
  have p6 := hS0.2.2.2.1
  refine z_aload_n (pc' := 1) X dX8_tollFor_0 rfl rfl ?_
  refine z_iload_n (pc' := 2) X dX8_tollFor_1 rfl rfl ?_
  refine z_S_fun1 (pc' := 5) X Y_X8_isCarter q2120 dX8_tollFor_2 rfl (by decide) (Nat.le_refl _) (Nat.le_refl _) (Nat.le_of_ble_eq_true rfl) (fun h _ => c_X8_isCarter _ _ _ _ (by first | assumption | omega)) (fun r2 hr2 hp2 => ?_)
  refine z_if_ne (tgt := 12) (pc' := 8) X (by first | assumption | omega) dX8_tollFor_5 rfl (by decide) (fun c5 => ?_) (fun c5 => ?_)
  · refine z_iload_n (pc' := 13) X dX8_tollFor_12 rfl rfl ?_
    refine z_S_fun1 (pc' := 16) X Y_X8_isWeight q2129 dX8_tollFor_13 rfl (by decide) (Nat.le_refl _) (Nat.le_refl _) (Nat.le_of_ble_eq_true rfl) (fun h _ => c_X8_isWeight _ _ _ _ (by first | assumption | omega)) (fun r13 hr13 hp13 => ?_)
    refine z_if_eq (tgt := 23) (pc' := 19) X (by first | assumption | omega) dX8_tollFor_16 rfl (by decide) (fun c16 => ?_) (fun c16 => ?_)
    · refine z_iconst (pc' := 24) X dX8_tollFor_23 rfl ?_
      refine z_mput (pc' := 27) X 10 3 rfl (by decide) q2073 rfl rfl rfl (by first | assumption | omega) dX8_tollFor_24 rfl (fun hR24 => ?_)
      refine z_aload_n (pc' := 28) X dX8_tollFor_27 rfl rfl ?_
      have hv28 := hR24 0 3
      refine z_mget (pc' := 31) X 10 rfl (by decide) q2073 rfl dX8_tollFor_28 rfl ?_
      rw [mset_s]
      rw [mset_s] at hv28
      refine z_if_le (tgt := 38) (pc' := 34) X (by first | assumption | omega) dX8_tollFor_31 rfl (by decide) (fun c31 => ?_) (fun c31 => ?_)
      · exact absurd c31 (by decide)
      · refine z_iconst (pc' := 35) X dX8_tollFor_34 rfl ?_
        refine z_goto (tgt := 44) X dX8_tollFor_35 (by decide) ?_
        refine z_ireturn X dX8_tollFor_44 (Nat.le_refl _) (Nat.le_refl _) (fun _ hh => ⟨_, hh, _, rfl, ?_, ?_⟩)
        · first | assumption | omega
        · exact ⟨by rw [mset_s]; unfold gTol; (repeat' split) <;> omega, Or.inl ⟨by unfold gTol; (repeat' split) <;> omega, hA.num (by decide)⟩⟩
    · refine z_iconst (pc' := 20) X dX8_tollFor_19 rfl ?_
      refine z_goto (tgt := 24) X dX8_tollFor_20 (by decide) ?_
      refine z_mput (pc' := 27) X 10 3 rfl (by decide) q2073 rfl rfl rfl (by first | assumption | omega) dX8_tollFor_24 rfl (fun hR24 => ?_)
      refine z_aload_n (pc' := 28) X dX8_tollFor_27 rfl rfl ?_
      have hv28 := hR24 0 3
      refine z_mget (pc' := 31) X 10 rfl (by decide) q2073 rfl dX8_tollFor_28 rfl ?_
      rw [mset_s]
      rw [mset_s] at hv28
      refine z_if_le (tgt := 38) (pc' := 34) X (by first | assumption | omega) dX8_tollFor_31 rfl (by decide) (fun c31 => ?_) (fun c31 => ?_)
      · refine z_aload_n (pc' := 39) X dX8_tollFor_38 rfl rfl ?_
        refine z_iload_n (pc' := 40) X dX8_tollFor_39 rfl rfl ?_
        refine z_iload_n (pc' := 41) X dX8_tollFor_40 rfl rfl ?_
        refine z_V_fun2 (pc' := 44) X rfl Y_X8_toll q2143 dX8_tollFor_41 rfl (by decide) (Nat.le_refl _) (Nat.le_refl _) (Nat.le_of_ble_eq_true rfl) (c_X8_toll _ _ _ _ _ _ (by first | assumption | omega) (by first | assumption | omega)) (fun r41 hr41 hp41 => ?_)
        subst hp41
        refine z_ireturn X dX8_tollFor_44 (Nat.le_refl _) (Nat.le_refl _) (fun _ hh => ⟨_, hh, _, rfl, ?_, ?_⟩)
        · first | assumption | omega
        · have hg0 : gTol c w = 0 := by unfold gTol; (repeat' split) <;> omega
          rw [hg0]
          exact ⟨mset_s, Or.inr ⟨rfl, mToll_S hS0 (by omega), hA0⟩⟩
      · exact absurd c31 (by decide)
  · refine z_iconst (pc' := 9) X dX8_tollFor_8 rfl ?_
    refine z_goto (tgt := 24) X dX8_tollFor_9 (by decide) ?_
    refine z_mput (pc' := 27) X 10 3 rfl (by decide) q2073 rfl rfl rfl (by first | assumption | omega) dX8_tollFor_24 rfl (fun hR24 => ?_)
    refine z_aload_n (pc' := 28) X dX8_tollFor_27 rfl rfl ?_
    have hv28 := hR24 0 3
    refine z_mget (pc' := 31) X 10 rfl (by decide) q2073 rfl dX8_tollFor_28 rfl ?_
    rw [mset_s]
    rw [mset_s] at hv28
    refine z_if_le (tgt := 38) (pc' := 34) X (by first | assumption | omega) dX8_tollFor_31 rfl (by decide) (fun c31 => ?_) (fun c31 => ?_)
    · exact absurd c31 (by decide)
    · refine z_iconst (pc' := 35) X dX8_tollFor_34 rfl ?_
      refine z_goto (tgt := 44) X dX8_tollFor_35 (by decide) ?_
      refine z_ireturn X dX8_tollFor_44 (Nat.le_refl _) (Nat.le_refl _) (fun _ hh => ⟨_, hh, _, rfl, ?_, ?_⟩)
      · first | assumption | omega
      · exact ⟨by rw [mset_s]; unfold gTol; (repeat' split) <;> omega, Or.inl ⟨by unfold gTol; (repeat' split) <;> omega, hA.num (by decide)⟩⟩
theorem Y_X8_whyNotIn : zYV yX8_whyNotIn cX8_whyNotIn 4 (some .int) 3 := ⟨⟨q2411, q2412, q132, q2413⟩, by decide +kernel, by decide⟩
set_option maxRecDepth 100000 in
theorem c_X8_whyNotIn (l : Launch) (g : zG) (ma : Nat → Nat) (M : MM) (c w z : Int) (A : Ab) (P Q : Int) (hc : rng c) (hw : rng w) (hz : rng z) (hA : mRep M A) (hk : okA P Q A) (hP : P ≤ 900000) (hQ : Q ≤ 9000000) : mInt l yX8_whyNotIn cX8_whyNotIn 4 (some .int) 7 [vR (ma 0), vI c, vI w, vI z] g ma M (fun r M' => outP (gWhy c w z) A (whyInS A.1 c w z) A r M') := by
  refine mInt.mk (L0 := [some (vR (ma 0)), some (vI c), some (vI w), some (vI z)]) (by decide) rfl (Nat.le_of_ble_eq_true rfl) rfl (fun C h hg hl hR X => ?_)
  subst hg hl
  obtain ⟨hS, hN, hH, hT⟩ := id hA
  obtain ⟨hkS, -, -, -⟩ := id hk
  obtain ⟨⟨kc1, -, kc3, kc4, kc5⟩, kb, kp, kq⟩ := id hkS
  have hI := hk.I hA hP hQ
  have hn := mI_n hI
  have hh0 : 0 ≤ M 0 0 ∧ M 0 0 ≤ 5 := ⟨by rw [hH.1]; omega, by rw [hH.1]; have := hH.2.1; omega⟩
  have s0 := sc_at hA (j := 0) (by unfold scI; omega)
  have s1 := sc_at hA (j := 1) (by unfold scI; omega)
  have hA0 : mRep (mset M 0 3 0) A := hA.num (by decide)
  have hS0 := hA0.1
  have hI0 : mI (mset M 0 3 0) := hk.I hA0 hP hQ
  have q4 := hS.2.1.1
  have q5 := hS.2.2.1.1
  have q6 := hS.2.2.2.1
  have p4 := hS0.2.1.1
  have p5 := hS0.2.2.1.1
  have p6 := hS0.2.2.2.1
  refine z_aload_n (pc' := 1) X dX8_whyNotIn_0 rfl rfl ?_
  refine z_iload_n (pc' := 2) X dX8_whyNotIn_1 rfl rfl ?_
  refine z_S_fun1 (pc' := 5) X Y_X8_isCarter q2120 dX8_whyNotIn_2 rfl (by decide) (Nat.le_refl _) (Nat.le_refl _) (Nat.le_of_ble_eq_true rfl) (fun h _ => c_X8_isCarter _ _ _ _ (by first | assumption | omega)) (fun r2 hr2 hp2 => ?_)
  refine z_if_ne (tgt := 12) (pc' := 8) X (by first | assumption | omega) dX8_whyNotIn_5 rfl (by decide) (fun c5 => ?_) (fun c5 => ?_)
  · refine z_iload_n (pc' := 13) X dX8_whyNotIn_12 rfl rfl ?_
    refine z_S_fun1 (pc' := 16) X Y_X8_isWeight q2129 dX8_whyNotIn_13 rfl (by decide) (Nat.le_refl _) (Nat.le_refl _) (Nat.le_of_ble_eq_true rfl) (fun h _ => c_X8_isWeight _ _ _ _ (by first | assumption | omega)) (fun r13 hr13 hp13 => ?_)
    refine z_if_eq (tgt := 30) (pc' := 19) X (by first | assumption | omega) dX8_whyNotIn_16 rfl (by decide) (fun c16 => ?_) (fun c16 => ?_)
    · refine z_iconst (pc' := 31) X dX8_whyNotIn_30 rfl ?_
      refine z_mput (pc' := 34) X 10 3 rfl (by decide) q2073 rfl rfl rfl (by first | assumption | omega) dX8_whyNotIn_31 rfl (fun hR31 => ?_)
      refine z_aload_n (pc' := 35) X dX8_whyNotIn_34 rfl rfl ?_
      have hv35 := hR31 0 3
      refine z_mget (pc' := 38) X 10 rfl (by decide) q2073 rfl dX8_whyNotIn_35 rfl ?_
      rw [mset_s]
      rw [mset_s] at hv35
      refine z_if_le (tgt := 45) (pc' := 41) X (by first | assumption | omega) dX8_whyNotIn_38 rfl (by decide) (fun c38 => ?_) (fun c38 => ?_)
      · exact absurd c38 (by decide)
      · refine z_iconst (pc' := 42) X dX8_whyNotIn_41 rfl ?_
        refine z_goto (tgt := 52) X dX8_whyNotIn_42 (by decide) ?_
        refine z_ireturn X dX8_whyNotIn_52 (Nat.le_refl _) (Nat.le_refl _) (fun _ hh => ⟨_, hh, _, rfl, ?_, ?_⟩)
        · first | assumption | omega
        · exact ⟨by rw [mset_s]; unfold gWhy; (repeat' split) <;> omega, Or.inl ⟨by unfold gWhy; (repeat' split) <;> omega, hA.num (by decide)⟩⟩
    · refine z_iload_n (pc' := 20) X dX8_whyNotIn_19 rfl rfl ?_
      refine z_S_fun1 (pc' := 23) X Y_X8_isDamp q2132 dX8_whyNotIn_20 rfl (by decide) (Nat.le_refl _) (Nat.le_refl _) (Nat.le_of_ble_eq_true rfl) (fun h _ => c_X8_isDamp _ _ _ _ (by first | assumption | omega)) (fun r20 hr20 hp20 => ?_)
      refine z_if_eq (tgt := 30) (pc' := 26) X (by first | assumption | omega) dX8_whyNotIn_23 rfl (by decide) (fun c23 => ?_) (fun c23 => ?_)
      · refine z_iconst (pc' := 31) X dX8_whyNotIn_30 rfl ?_
        refine z_mput (pc' := 34) X 10 3 rfl (by decide) q2073 rfl rfl rfl (by first | assumption | omega) dX8_whyNotIn_31 rfl (fun hR31 => ?_)
        refine z_aload_n (pc' := 35) X dX8_whyNotIn_34 rfl rfl ?_
        have hv35 := hR31 0 3
        refine z_mget (pc' := 38) X 10 rfl (by decide) q2073 rfl dX8_whyNotIn_35 rfl ?_
        rw [mset_s]
        rw [mset_s] at hv35
        refine z_if_le (tgt := 45) (pc' := 41) X (by first | assumption | omega) dX8_whyNotIn_38 rfl (by decide) (fun c38 => ?_) (fun c38 => ?_)
        · exact absurd c38 (by decide)
        · refine z_iconst (pc' := 42) X dX8_whyNotIn_41 rfl ?_
          refine z_goto (tgt := 52) X dX8_whyNotIn_42 (by decide) ?_
          refine z_ireturn X dX8_whyNotIn_52 (Nat.le_refl _) (Nat.le_refl _) (fun _ hh => ⟨_, hh, _, rfl, ?_, ?_⟩)
          · first | assumption | omega
          · exact ⟨by rw [mset_s]; unfold gWhy; (repeat' split) <;> omega, Or.inl ⟨by unfold gWhy; (repeat' split) <;> omega, hA.num (by decide)⟩⟩
      · refine z_iconst (pc' := 27) X dX8_whyNotIn_26 rfl ?_
        refine z_goto (tgt := 31) X dX8_whyNotIn_27 (by decide) ?_
        refine z_mput (pc' := 34) X 10 3 rfl (by decide) q2073 rfl rfl rfl (by first | assumption | omega) dX8_whyNotIn_31 rfl (fun hR31 => ?_)
        refine z_aload_n (pc' := 35) X dX8_whyNotIn_34 rfl rfl ?_
        have hv35 := hR31 0 3
        refine z_mget (pc' := 38) X 10 rfl (by decide) q2073 rfl dX8_whyNotIn_35 rfl ?_
        rw [mset_s]
        rw [mset_s] at hv35
        refine z_if_le (tgt := 45) (pc' := 41) X (by first | assumption | omega) dX8_whyNotIn_38 rfl (by decide) (fun c38 => ?_) (fun c38 => ?_)
        · refine z_aload_n (pc' := 46) X dX8_whyNotIn_45 rfl rfl ?_
          refine z_iload_n (pc' := 47) X dX8_whyNotIn_46 rfl rfl ?_
          refine z_iload_n (pc' := 48) X dX8_whyNotIn_47 rfl rfl ?_
          refine z_iload_n (pc' := 49) X dX8_whyNotIn_48 rfl rfl ?_
          refine z_V_fun3 (pc' := 52) X rfl Y_X8_whyNot q2135 dX8_whyNotIn_49 rfl (by decide) (Nat.le_refl _) (Nat.le_refl _) (Nat.le_of_ble_eq_true rfl) (c_X8_whyNot _ _ _ _ _ _ _ (by first | assumption | omega) (by first | assumption | omega) (by first | assumption | omega) (by first | assumption | omega)) (fun r49 hr49 hp49 => ?_)
          subst hp49
          refine z_ireturn X dX8_whyNotIn_52 (Nat.le_refl _) (Nat.le_refl _) (fun _ hh => ⟨_, hh, _, rfl, ?_, ?_⟩)
          · first | assumption | omega
          · have hg0 : gWhy c w z = 0 := by unfold gWhy; (repeat' split) <;> omega
            rw [hg0]
            exact ⟨mset_s, Or.inr ⟨rfl, mWhyIn_S hS0 (by omega), hA0⟩⟩
        · exact absurd c38 (by decide)
  · refine z_iconst (pc' := 9) X dX8_whyNotIn_8 rfl ?_
    refine z_goto (tgt := 31) X dX8_whyNotIn_9 (by decide) ?_
    refine z_mput (pc' := 34) X 10 3 rfl (by decide) q2073 rfl rfl rfl (by first | assumption | omega) dX8_whyNotIn_31 rfl (fun hR31 => ?_)
    refine z_aload_n (pc' := 35) X dX8_whyNotIn_34 rfl rfl ?_
    have hv35 := hR31 0 3
    refine z_mget (pc' := 38) X 10 rfl (by decide) q2073 rfl dX8_whyNotIn_35 rfl ?_
    rw [mset_s]
    rw [mset_s] at hv35
    refine z_if_le (tgt := 45) (pc' := 41) X (by first | assumption | omega) dX8_whyNotIn_38 rfl (by decide) (fun c38 => ?_) (fun c38 => ?_)
    · exact absurd c38 (by decide)
    · refine z_iconst (pc' := 42) X dX8_whyNotIn_41 rfl ?_
      refine z_goto (tgt := 52) X dX8_whyNotIn_42 (by decide) ?_
      refine z_ireturn X dX8_whyNotIn_52 (Nat.le_refl _) (Nat.le_refl _) (fun _ hh => ⟨_, hh, _, rfl, ?_, ?_⟩)
      · first | assumption | omega
      · exact ⟨by rw [mset_s]; unfold gWhy; (repeat' split) <;> omega, Or.inl ⟨by unfold gWhy; (repeat' split) <;> omega, hA.num (by decide)⟩⟩
theorem Y_X8_bales : zYV yX8_bales cX8_bales 1 (some .int) 0 := ⟨⟨q2415, q2416, q132, q2417⟩, by decide +kernel, by decide⟩
set_option maxRecDepth 100000 in
theorem c_X8_bales (l : Launch) (g : zG) (ma : Nat → Nat) (M : MM) (A : Ab) (P Q : Int) (hA : mRep M A) (hk : okA P Q A) (hP : P ≤ 900000) (hQ : Q ≤ 9000000) : mInt l yX8_bales cX8_bales 1 (some .int) 7 [vR (ma 0)] g ma M (fun r M' => outP 0 A (A.1.2.1.length) A r M') := by
  refine mInt.mk (L0 := [some (vR (ma 0))]) (by decide) rfl (Nat.le_of_ble_eq_true rfl) rfl (fun C h hg hl hR X => ?_)
  subst hg hl
  obtain ⟨hS, hN, hH, hT⟩ := id hA
  obtain ⟨hkS, -, -, -⟩ := id hk
  obtain ⟨⟨kc1, -, kc3, kc4, kc5⟩, kb, kp, kq⟩ := id hkS
  have hI := hk.I hA hP hQ
  have hn := mI_n hI
  have hh0 : 0 ≤ M 0 0 ∧ M 0 0 ≤ 5 := ⟨by rw [hH.1]; omega, by rw [hH.1]; have := hH.2.1; omega⟩
  have s0 := sc_at hA (j := 0) (by unfold scI; omega)
  have s1 := sc_at hA (j := 1) (by unfold scI; omega)
  have hA0 : mRep (mset M 0 3 0) A := hA.num (by decide)
  have hS0 := hA0.1
  have hI0 : mI (mset M 0 3 0) := hk.I hA0 hP hQ
  have q4 := hS.2.1.1
  have q5 := hS.2.2.1.1
  have q6 := hS.2.2.2.1
  have p4 := hS0.2.1.1
  have p5 := hS0.2.2.1.1
  have p6 := hS0.2.2.2.1
  refine z_aload_n (pc' := 1) X dX8_bales_0 rfl rfl ?_
  refine z_iconst (pc' := 2) X dX8_bales_1 rfl ?_
  refine z_V_int1 (pc' := 5) X rfl Y_X8_count q2418 dX8_bales_2 rfl (by decide) (Nat.le_refl _) (Nat.le_refl _) (Nat.le_of_ble_eq_true rfl) (c_X8_count _ _ _ _ 4 (by decide)) (fun r2 M2 hr2 hp2 hR2 => ?_)
  refine z_ireturn X dX8_bales_5 (Nat.le_refl _) (Nat.le_refl _) (fun _ hh => ⟨_, hh, _, rfl, ?_, ?_⟩)
  · first | assumption | omega
  · obtain ⟨f1, f2⟩ := hp2
    rw [f1, f2]
    exact ⟨mset_s, Or.inr ⟨rfl, q4, hA0⟩⟩
theorem Y_X8_piles : zYV yX8_piles cX8_piles 1 (some .int) 0 := ⟨⟨q2523, q2524, q132, q2525⟩, by decide +kernel, by decide⟩
set_option maxRecDepth 100000 in
theorem c_X8_piles (l : Launch) (g : zG) (ma : Nat → Nat) (M : MM) (A : Ab) (P Q : Int) (hA : mRep M A) (hk : okA P Q A) (hP : P ≤ 900000) (hQ : Q ≤ 9000000) : mInt l yX8_piles cX8_piles 1 (some .int) 7 [vR (ma 0)] g ma M (fun r M' => outP 0 A (A.1.2.2.1.length) A r M') := by
  refine mInt.mk (L0 := [some (vR (ma 0))]) (by decide) rfl (Nat.le_of_ble_eq_true rfl) rfl (fun C h hg hl hR X => ?_)
  subst hg hl
  obtain ⟨hS, hN, hH, hT⟩ := id hA
  obtain ⟨hkS, -, -, -⟩ := id hk
  obtain ⟨⟨kc1, -, kc3, kc4, kc5⟩, kb, kp, kq⟩ := id hkS
  have hI := hk.I hA hP hQ
  have hn := mI_n hI
  have hh0 : 0 ≤ M 0 0 ∧ M 0 0 ≤ 5 := ⟨by rw [hH.1]; omega, by rw [hH.1]; have := hH.2.1; omega⟩
  have s0 := sc_at hA (j := 0) (by unfold scI; omega)
  have s1 := sc_at hA (j := 1) (by unfold scI; omega)
  have hA0 : mRep (mset M 0 3 0) A := hA.num (by decide)
  have hS0 := hA0.1
  have hI0 : mI (mset M 0 3 0) := hk.I hA0 hP hQ
  have q4 := hS.2.1.1
  have q5 := hS.2.2.1.1
  have q6 := hS.2.2.2.1
  have p4 := hS0.2.1.1
  have p5 := hS0.2.2.1.1
  have p6 := hS0.2.2.2.1
  refine z_aload_n (pc' := 1) X dX8_piles_0 rfl rfl ?_
  refine z_iconst (pc' := 2) X dX8_piles_1 rfl ?_
  refine z_V_int1 (pc' := 5) X rfl Y_X8_count q2418 dX8_piles_2 rfl (by decide) (Nat.le_refl _) (Nat.le_refl _) (Nat.le_of_ble_eq_true rfl) (c_X8_count _ _ _ _ 5 (by decide)) (fun r2 M2 hr2 hp2 hR2 => ?_)
  refine z_ireturn X dX8_piles_5 (Nat.le_refl _) (Nat.le_refl _) (fun _ hh => ⟨_, hh, _, rfl, ?_, ?_⟩)
  · first | assumption | omega
  · obtain ⟨f1, f2⟩ := hp2
    rw [f1, f2]
    exact ⟨mset_s, Or.inr ⟨rfl, q5, hA0⟩⟩
theorem Y_X8_reams : zYV yX8_reams cX8_reams 1 (some .int) 0 := ⟨⟨q2547, q2548, q132, q2549⟩, by decide +kernel, by decide⟩
set_option maxRecDepth 100000 in
theorem c_X8_reams (l : Launch) (g : zG) (ma : Nat → Nat) (M : MM) (A : Ab) (P Q : Int) (hA : mRep M A) (hk : okA P Q A) (hP : P ≤ 900000) (hQ : Q ≤ 9000000) : mInt l yX8_reams cX8_reams 1 (some .int) 7 [vR (ma 0)] g ma M (fun r M' => outP 0 A (A.1.2.2.2.length) A r M') := by
  refine mInt.mk (L0 := [some (vR (ma 0))]) (by decide) rfl (Nat.le_of_ble_eq_true rfl) rfl (fun C h hg hl hR X => ?_)
  subst hg hl
  obtain ⟨hS, hN, hH, hT⟩ := id hA
  obtain ⟨hkS, -, -, -⟩ := id hk
  obtain ⟨⟨kc1, -, kc3, kc4, kc5⟩, kb, kp, kq⟩ := id hkS
  have hI := hk.I hA hP hQ
  have hn := mI_n hI
  have hh0 : 0 ≤ M 0 0 ∧ M 0 0 ≤ 5 := ⟨by rw [hH.1]; omega, by rw [hH.1]; have := hH.2.1; omega⟩
  have s0 := sc_at hA (j := 0) (by unfold scI; omega)
  have s1 := sc_at hA (j := 1) (by unfold scI; omega)
  have hA0 : mRep (mset M 0 3 0) A := hA.num (by decide)
  have hS0 := hA0.1
  have hI0 : mI (mset M 0 3 0) := hk.I hA0 hP hQ
  have q4 := hS.2.1.1
  have q5 := hS.2.2.1.1
  have q6 := hS.2.2.2.1
  have p4 := hS0.2.1.1
  have p5 := hS0.2.2.1.1
  have p6 := hS0.2.2.2.1
  refine z_aload_n (pc' := 1) X dX8_reams_0 rfl rfl ?_
  refine z_bipush (pc' := 3) X dX8_reams_1 rfl (by decide) ?_
  refine z_V_int1 (pc' := 6) X rfl Y_X8_count q2418 dX8_reams_3 rfl (by decide) (Nat.le_refl _) (Nat.le_refl _) (Nat.le_of_ble_eq_true rfl) (c_X8_count _ _ _ _ 6 (by decide)) (fun r3 M3 hr3 hp3 hR3 => ?_)
  refine z_ireturn X dX8_reams_6 (Nat.le_refl _) (Nat.le_refl _) (fun _ hh => ⟨_, hh, _, rfl, ?_, ?_⟩)
  · first | assumption | omega
  · obtain ⟨f1, f2⟩ := hp3
    rw [f1, f2]
    exact ⟨mset_s, Or.inr ⟨rfl, q6, hA0⟩⟩
theorem Y_X8_day : zYV yX8_day cX8_day 1 (some .int) 0 := ⟨⟨q2559, q2560, q132, q2561⟩, by decide +kernel, by decide⟩
set_option maxRecDepth 100000 in
theorem c_X8_day (l : Launch) (g : zG) (ma : Nat → Nat) (M : MM) (A : Ab) (P Q : Int) (hA : mRep M A) (hk : okA P Q A) (hP : P ≤ 900000) (hQ : Q ≤ 9000000) : mInt l yX8_day cX8_day 1 (some .int) 7 [vR (ma 0)] g ma M (fun r M' => outP 0 A (A.1.1 0) A r M') := by
  refine mInt.mk (L0 := [some (vR (ma 0))]) (by decide) rfl (Nat.le_of_ble_eq_true rfl) rfl (fun C h hg hl hR X => ?_)
  subst hg hl
  obtain ⟨hS, hN, hH, hT⟩ := id hA
  obtain ⟨hkS, -, -, -⟩ := id hk
  obtain ⟨⟨kc1, -, kc3, kc4, kc5⟩, kb, kp, kq⟩ := id hkS
  have hI := hk.I hA hP hQ
  have hn := mI_n hI
  have hh0 : 0 ≤ M 0 0 ∧ M 0 0 ≤ 5 := ⟨by rw [hH.1]; omega, by rw [hH.1]; have := hH.2.1; omega⟩
  have s0 := sc_at hA (j := 0) (by unfold scI; omega)
  have s1 := sc_at hA (j := 1) (by unfold scI; omega)
  have hA0 : mRep (mset M 0 3 0) A := hA.num (by decide)
  have hS0 := hA0.1
  have hI0 : mI (mset M 0 3 0) := hk.I hA0 hP hQ
  have q4 := hS.2.1.1
  have q5 := hS.2.2.1.1
  have q6 := hS.2.2.2.1
  have p4 := hS0.2.1.1
  have p5 := hS0.2.2.1.1
  have p6 := hS0.2.2.2.1
  refine z_aload_n (pc' := 1) X dX8_day_0 rfl rfl ?_
  refine z_iconst (pc' := 2) X dX8_day_1 rfl ?_
  refine z_V_int1 (pc' := 5) X rfl Y_X8_count q2418 dX8_day_2 rfl (by decide) (Nat.le_refl _) (Nat.le_refl _) (Nat.le_of_ble_eq_true rfl) (c_X8_count _ _ _ _ 0 (by decide)) (fun r2 M2 hr2 hp2 hR2 => ?_)
  refine z_ireturn X dX8_day_5 (Nat.le_refl _) (Nat.le_refl _) (fun _ hh => ⟨_, hh, _, rfl, ?_, ?_⟩)
  · first | assumption | omega
  · obtain ⟨f1, f2⟩ := hp2
    rw [f1, f2]
    exact ⟨mset_s, Or.inr ⟨rfl, s0, hA0⟩⟩
theorem Y_X8_purse : zYV yX8_purse cX8_purse 1 (some .int) 0 := ⟨⟨q2563, q2564, q132, q2565⟩, by decide +kernel, by decide⟩
set_option maxRecDepth 100000 in
theorem c_X8_purse (l : Launch) (g : zG) (ma : Nat → Nat) (M : MM) (A : Ab) (P Q : Int) (hA : mRep M A) (hk : okA P Q A) (hP : P ≤ 900000) (hQ : Q ≤ 9000000) : mInt l yX8_purse cX8_purse 1 (some .int) 7 [vR (ma 0)] g ma M (fun r M' => outP 0 A (A.1.1 1) A r M') := by
  refine mInt.mk (L0 := [some (vR (ma 0))]) (by decide) rfl (Nat.le_of_ble_eq_true rfl) rfl (fun C h hg hl hR X => ?_)
  subst hg hl
  obtain ⟨hS, hN, hH, hT⟩ := id hA
  obtain ⟨hkS, -, -, -⟩ := id hk
  obtain ⟨⟨kc1, -, kc3, kc4, kc5⟩, kb, kp, kq⟩ := id hkS
  have hI := hk.I hA hP hQ
  have hn := mI_n hI
  have hh0 : 0 ≤ M 0 0 ∧ M 0 0 ≤ 5 := ⟨by rw [hH.1]; omega, by rw [hH.1]; have := hH.2.1; omega⟩
  have s0 := sc_at hA (j := 0) (by unfold scI; omega)
  have s1 := sc_at hA (j := 1) (by unfold scI; omega)
  have hA0 : mRep (mset M 0 3 0) A := hA.num (by decide)
  have hS0 := hA0.1
  have hI0 : mI (mset M 0 3 0) := hk.I hA0 hP hQ
  have q4 := hS.2.1.1
  have q5 := hS.2.2.1.1
  have q6 := hS.2.2.2.1
  have p4 := hS0.2.1.1
  have p5 := hS0.2.2.1.1
  have p6 := hS0.2.2.2.1
  refine z_aload_n (pc' := 1) X dX8_purse_0 rfl rfl ?_
  refine z_iconst (pc' := 2) X dX8_purse_1 rfl ?_
  refine z_V_int1 (pc' := 5) X rfl Y_X8_count q2418 dX8_purse_2 rfl (by decide) (Nat.le_refl _) (Nat.le_refl _) (Nat.le_of_ble_eq_true rfl) (c_X8_count _ _ _ _ 1 (by decide)) (fun r2 M2 hr2 hp2 hR2 => ?_)
  refine z_ireturn X dX8_purse_5 (Nat.le_refl _) (Nat.le_refl _) (fun _ hh => ⟨_, hh, _, rfl, ?_, ?_⟩)
  · first | assumption | omega
  · obtain ⟨f1, f2⟩ := hp2
    rw [f1, f2]
    exact ⟨mset_s, Or.inr ⟨rfl, s1, hA0⟩⟩
theorem Y_X8_recipeDepth : zYV yX8_recipeDepth cX8_recipeDepth 1 (some .int) 0 := ⟨⟨q2459, q2460, q132, q2461⟩, by decide +kernel, by decide⟩
set_option maxRecDepth 100000 in
theorem c_X8_recipeDepth (l : Launch) (g : zG) (ma : Nat → Nat) (M : MM) (A : Ab) (P Q : Int) (hA : mRep M A) (hk : okA P Q A) (hP : P ≤ 900000) (hQ : Q ≤ 9000000) : mInt l yX8_recipeDepth cX8_recipeDepth 1 (some .int) 7 [vR (ma 0)] g ma M (fun r M' => outP 0 A (A.1.1 12) A r M') := by
  refine mInt.mk (L0 := [some (vR (ma 0))]) (by decide) rfl (Nat.le_of_ble_eq_true rfl) rfl (fun C h hg hl hR X => ?_)
  subst hg hl
  obtain ⟨hS, hN, hH, hT⟩ := id hA
  obtain ⟨hkS, -, -, -⟩ := id hk
  obtain ⟨⟨kc1, -, kc3, kc4, kc5⟩, kb, kp, kq⟩ := id hkS
  have hI := hk.I hA hP hQ
  have hn := mI_n hI
  have hh0 : 0 ≤ M 0 0 ∧ M 0 0 ≤ 5 := ⟨by rw [hH.1]; omega, by rw [hH.1]; have := hH.2.1; omega⟩
  have s0 := sc_at hA (j := 0) (by unfold scI; omega)
  have s1 := sc_at hA (j := 1) (by unfold scI; omega)
  have hA0 : mRep (mset M 0 3 0) A := hA.num (by decide)
  have hS0 := hA0.1
  have hI0 : mI (mset M 0 3 0) := hk.I hA0 hP hQ
  have q4 := hS.2.1.1
  have q5 := hS.2.2.1.1
  have q6 := hS.2.2.2.1
  have p4 := hS0.2.1.1
  have p5 := hS0.2.2.1.1
  have p6 := hS0.2.2.2.1
  refine z_aload_n (pc' := 1) X dX8_recipeDepth_0 rfl rfl ?_
  refine z_bipush (pc' := 3) X dX8_recipeDepth_1 rfl (by decide) ?_
  refine z_V_int1 (pc' := 6) X rfl Y_X8_count q2418 dX8_recipeDepth_3 rfl (by decide) (Nat.le_refl _) (Nat.le_refl _) (Nat.le_of_ble_eq_true rfl) (c_X8_count _ _ _ _ 12 (by decide)) (fun r3 M3 hr3 hp3 hR3 => ?_)
  refine z_ireturn X dX8_recipeDepth_6 (Nat.le_refl _) (Nat.le_refl _) (fun _ hh => ⟨_, hh, _, rfl, ?_, ?_⟩)
  · first | assumption | omega
  · obtain ⟨f1, f2⟩ := hp3
    rw [f1, f2]
    exact ⟨mset_s, Or.inr ⟨rfl, hS.1 _ (by unfold scI; omega), hA0⟩⟩
theorem Y_X8_tells : zYV yX8_tells cX8_tells 3 (some .int) 2 := ⟨⟨q2428, qs89, q132, q2429⟩, by decide +kernel, by decide⟩
set_option maxRecDepth 100000 in
theorem c_X8_tells (l : Launch) (g : zG) (ma : Nat → Nat) (M : MM) (p w : Int) (A : Ab) (P Q : Int) (hp : rng p) (hw : 0 ≤ w ∧ w < 4) (hA : mRep M A) (hk : okA P Q A) (hP : P ≤ 900000) (hQ : Q ≤ 9000000) : mInt l yX8_tells cX8_tells 3 (some .int) 6 [vR (ma 0), vI p, vI w] g ma M (fun r M' => outP (gAt A.1.2.1.length p) A (bAt (atB A.1.2.1 p) w) A r M') := by
  refine mInt.mk (L0 := [some (vR (ma 0)), some (vI p), some (vI w)]) (by decide) rfl (Nat.le_of_ble_eq_true rfl) rfl (fun C h hg hl hR X => ?_)
  subst hg hl
  obtain ⟨hS, hN, hH, hT⟩ := id hA
  obtain ⟨hkS, -, -, -⟩ := id hk
  obtain ⟨⟨kc1, -, kc3, kc4, kc5⟩, kb, kp, kq⟩ := id hkS
  have hI := hk.I hA hP hQ
  have hn := mI_n hI
  have hh0 : 0 ≤ M 0 0 ∧ M 0 0 ≤ 5 := ⟨by rw [hH.1]; omega, by rw [hH.1]; have := hH.2.1; omega⟩
  have s0 := sc_at hA (j := 0) (by unfold scI; omega)
  have s1 := sc_at hA (j := 1) (by unfold scI; omega)
  have hA0 : mRep (mset M 0 3 0) A := hA.num (by decide)
  have hS0 := hA0.1
  have hI0 : mI (mset M 0 3 0) := hk.I hA0 hP hQ
  have q4 := hS.2.1.1
  have q5 := hS.2.2.1.1
  have q6 := hS.2.2.2.1
  have p4 := hS0.2.1.1
  have p5 := hS0.2.2.1.1
  have p6 := hS0.2.2.2.1
  refine z_aload_n (pc' := 1) X dX8_tells_0 rfl rfl ?_
  refine z_aload_n (pc' := 2) X dX8_tells_1 rfl rfl ?_
  refine z_iload_n (pc' := 3) X dX8_tells_2 rfl rfl ?_
  refine z_V_fun1 (pc' := 6) X rfl Y_X8_isBale q2190 dX8_tells_3 rfl (by decide) (Nat.le_refl _) (Nat.le_refl _) (Nat.le_of_ble_eq_true rfl) (c_X8_isBale _ _ _ _ _ (by first | assumption | omega) (by first | assumption | omega)) (fun r3 hr3 hp3 => ?_)
  refine z_if_eq (tgt := 13) (pc' := 9) X (by first | assumption | omega) dX8_tells_6 rfl (by decide) (fun c6 => ?_) (fun c6 => ?_)
  · refine z_iconst (pc' := 14) X dX8_tells_13 rfl ?_
    refine z_mput (pc' := 17) X 10 3 rfl (by decide) q2073 rfl rfl rfl (by first | assumption | omega) dX8_tells_14 rfl (fun hR14 => ?_)
    refine z_aload_n (pc' := 18) X dX8_tells_17 rfl rfl ?_
    have hv18 := hR14 0 3
    refine z_mget (pc' := 21) X 10 rfl (by decide) q2073 rfl dX8_tells_18 rfl ?_
    rw [mset_s]
    rw [mset_s] at hv18
    refine z_if_le (tgt := 28) (pc' := 24) X (by first | assumption | omega) dX8_tells_21 rfl (by decide) (fun c21 => ?_) (fun c21 => ?_)
    · exact absurd c21 (by decide)
    · refine z_iconst (pc' := 25) X dX8_tells_24 rfl ?_
      refine z_goto (tgt := 34) X dX8_tells_25 (by decide) ?_
      refine z_ireturn X dX8_tells_34 (Nat.le_refl _) (Nat.le_refl _) (fun _ hh => ⟨_, hh, _, rfl, ?_, ?_⟩)
      · first | assumption | omega
      · exact ⟨by rw [mset_s]; unfold gAt; (repeat' split) <;> omega, Or.inl ⟨by unfold gAt; (repeat' split) <;> omega, hA.num (by decide)⟩⟩
  · refine z_iconst (pc' := 10) X dX8_tells_9 rfl ?_
    refine z_goto (tgt := 14) X dX8_tells_10 (by decide) ?_
    refine z_mput (pc' := 17) X 10 3 rfl (by decide) q2073 rfl rfl rfl (by first | assumption | omega) dX8_tells_14 rfl (fun hR14 => ?_)
    refine z_aload_n (pc' := 18) X dX8_tells_17 rfl rfl ?_
    have hv18 := hR14 0 3
    refine z_mget (pc' := 21) X 10 rfl (by decide) q2073 rfl dX8_tells_18 rfl ?_
    rw [mset_s]
    rw [mset_s] at hv18
    refine z_if_le (tgt := 28) (pc' := 24) X (by first | assumption | omega) dX8_tells_21 rfl (by decide) (fun c21 => ?_) (fun c21 => ?_)
    · refine z_aload_n (pc' := 29) X dX8_tells_28 rfl rfl ?_
      refine z_iload_n (pc' := 30) X dX8_tells_29 rfl rfl ?_
      refine z_iload_n (pc' := 31) X dX8_tells_30 rfl rfl ?_
      refine z_V_fun2 (pc' := 34) X rfl Y_X8_bale q2194 dX8_tells_31 rfl (by decide) (Nat.le_refl _) (Nat.le_refl _) (Nat.le_of_ble_eq_true rfl) (c_X8_bale _ _ _ _ _ _ (by first | assumption | omega) (by first | assumption | omega)) (fun r31 hr31 hp31 => ?_)
      subst hp31
      refine z_ireturn X dX8_tells_34 (Nat.le_refl _) (Nat.le_refl _) (fun _ hh => ⟨_, hh, _, rfl, ?_, ?_⟩)
      · first | assumption | omega
      · have hg0 : gAt A.1.2.1.length p = 0 := by unfold gAt; (repeat' split) <;> omega
        rw [hg0]
        exact ⟨mset_s, Or.inr ⟨rfl, bR_at hS0.2.1 (by omega) hw, hA0⟩⟩
    · exact absurd c21 (by decide)
theorem Y_X8_sortOf : zYV yX8_sortOf cX8_sortOf 2 (some .int) 1 := ⟨⟨q2423, q2424, q132, q2425⟩, by decide +kernel, by decide⟩
set_option maxRecDepth 100000 in
theorem c_X8_sortOf (l : Launch) (g : zG) (ma : Nat → Nat) (M : MM) (p : Int) (A : Ab) (P Q : Int) (hp : rng p) (hA : mRep M A) (hk : okA P Q A) (hP : P ≤ 900000) (hQ : Q ≤ 9000000) : mInt l yX8_sortOf cX8_sortOf 2 (some .int) 7 [vR (ma 0), vI p] g ma M (fun r M' => outP (gAt A.1.2.1.length p) A ((atB A.1.2.1 p).1) A r M') := by
  refine mInt.mk (L0 := [some (vR (ma 0)), some (vI p)]) (by decide) rfl (Nat.le_of_ble_eq_true rfl) rfl (fun C h hg hl hR X => ?_)
  subst hg hl
  refine z_aload_n (pc' := 1) X dX8_sortOf_0 rfl rfl ?_
  refine z_iload_n (pc' := 2) X dX8_sortOf_1 rfl rfl ?_
  refine z_iconst (pc' := 3) X dX8_sortOf_2 rfl ?_
  refine z_V_int2 (pc' := 6) X rfl Y_X8_tells q2426 dX8_sortOf_3 rfl (by decide) (Nat.le_refl _) (Nat.le_refl _) (Nat.le_of_ble_eq_true rfl) (c_X8_tells _ _ _ _ p 0 A P Q hp (by decide) hA hk hP hQ) (fun r3 M3 hr3 hp3 hR3 => ?_)
  refine z_ireturn X dX8_sortOf_6 (Nat.le_refl _) (Nat.le_refl _) (fun _ hh => ⟨_, hh, _, rfl, ?_, ?_⟩)
  · first | assumption | omega
  · exact hp3
theorem Y_X8_ragsOf : zYV yX8_ragsOf cX8_ragsOf 2 (some .int) 1 := ⟨⟨q2431, q2432, q132, q2433⟩, by decide +kernel, by decide⟩
set_option maxRecDepth 100000 in
theorem c_X8_ragsOf (l : Launch) (g : zG) (ma : Nat → Nat) (M : MM) (p : Int) (A : Ab) (P Q : Int) (hp : rng p) (hA : mRep M A) (hk : okA P Q A) (hP : P ≤ 900000) (hQ : Q ≤ 9000000) : mInt l yX8_ragsOf cX8_ragsOf 2 (some .int) 7 [vR (ma 0), vI p] g ma M (fun r M' => outP (gAt A.1.2.1.length p) A ((atB A.1.2.1 p).2.1) A r M') := by
  refine mInt.mk (L0 := [some (vR (ma 0)), some (vI p)]) (by decide) rfl (Nat.le_of_ble_eq_true rfl) rfl (fun C h hg hl hR X => ?_)
  subst hg hl
  refine z_aload_n (pc' := 1) X dX8_ragsOf_0 rfl rfl ?_
  refine z_iload_n (pc' := 2) X dX8_ragsOf_1 rfl rfl ?_
  refine z_iconst (pc' := 3) X dX8_ragsOf_2 rfl ?_
  refine z_V_int2 (pc' := 6) X rfl Y_X8_tells q2426 dX8_ragsOf_3 rfl (by decide) (Nat.le_refl _) (Nat.le_refl _) (Nat.le_of_ble_eq_true rfl) (c_X8_tells _ _ _ _ p 1 A P Q hp (by decide) hA hk hP hQ) (fun r3 M3 hr3 hp3 hR3 => ?_)
  refine z_ireturn X dX8_ragsOf_6 (Nat.le_refl _) (Nat.le_refl _) (fun _ hh => ⟨_, hh, _, rfl, ?_, ?_⟩)
  · first | assumption | omega
  · exact hp3
theorem Y_X8_dampOf : zYV yX8_dampOf cX8_dampOf 2 (some .int) 1 := ⟨⟨q2435, q2436, q132, q2437⟩, by decide +kernel, by decide⟩
set_option maxRecDepth 100000 in
theorem c_X8_dampOf (l : Launch) (g : zG) (ma : Nat → Nat) (M : MM) (p : Int) (A : Ab) (P Q : Int) (hp : rng p) (hA : mRep M A) (hk : okA P Q A) (hP : P ≤ 900000) (hQ : Q ≤ 9000000) : mInt l yX8_dampOf cX8_dampOf 2 (some .int) 7 [vR (ma 0), vI p] g ma M (fun r M' => outP (gAt A.1.2.1.length p) A ((atB A.1.2.1 p).2.2.1) A r M') := by
  refine mInt.mk (L0 := [some (vR (ma 0)), some (vI p)]) (by decide) rfl (Nat.le_of_ble_eq_true rfl) rfl (fun C h hg hl hR X => ?_)
  subst hg hl
  refine z_aload_n (pc' := 1) X dX8_dampOf_0 rfl rfl ?_
  refine z_iload_n (pc' := 2) X dX8_dampOf_1 rfl rfl ?_
  refine z_iconst (pc' := 3) X dX8_dampOf_2 rfl ?_
  refine z_V_int2 (pc' := 6) X rfl Y_X8_tells q2426 dX8_dampOf_3 rfl (by decide) (Nat.le_refl _) (Nat.le_refl _) (Nat.le_of_ble_eq_true rfl) (c_X8_tells _ _ _ _ p 2 A P Q hp (by decide) hA hk hP hQ) (fun r3 M3 hr3 hp3 hR3 => ?_)
  refine z_ireturn X dX8_dampOf_6 (Nat.le_refl _) (Nat.le_refl _) (fun _ hh => ⟨_, hh, _, rfl, ?_, ?_⟩)
  · first | assumption | omega
  · exact hp3
theorem Y_X8_wetDaysOf : zYV yX8_wetDaysOf cX8_wetDaysOf 2 (some .int) 1 := ⟨⟨q2439, q2440, q132, q2441⟩, by decide +kernel, by decide⟩
set_option maxRecDepth 100000 in
theorem c_X8_wetDaysOf (l : Launch) (g : zG) (ma : Nat → Nat) (M : MM) (p : Int) (A : Ab) (P Q : Int) (hp : rng p) (hA : mRep M A) (hk : okA P Q A) (hP : P ≤ 900000) (hQ : Q ≤ 9000000) : mInt l yX8_wetDaysOf cX8_wetDaysOf 2 (some .int) 7 [vR (ma 0), vI p] g ma M (fun r M' => outP (gAt A.1.2.1.length p) A ((atB A.1.2.1 p).2.2.2) A r M') := by
  refine mInt.mk (L0 := [some (vR (ma 0)), some (vI p)]) (by decide) rfl (Nat.le_of_ble_eq_true rfl) rfl (fun C h hg hl hR X => ?_)
  subst hg hl
  refine z_aload_n (pc' := 1) X dX8_wetDaysOf_0 rfl rfl ?_
  refine z_iload_n (pc' := 2) X dX8_wetDaysOf_1 rfl rfl ?_
  refine z_iconst (pc' := 3) X dX8_wetDaysOf_2 rfl ?_
  refine z_V_int2 (pc' := 6) X rfl Y_X8_tells q2426 dX8_wetDaysOf_3 rfl (by decide) (Nat.le_refl _) (Nat.le_refl _) (Nat.le_of_ble_eq_true rfl) (c_X8_tells _ _ _ _ p 3 A P Q hp (by decide) hA hk hP hQ) (fun r3 M3 hr3 hp3 hR3 => ?_)
  refine z_ireturn X dX8_wetDaysOf_6 (Nat.le_refl _) (Nat.le_refl _) (fun _ hh => ⟨_, hh, _, rfl, ?_, ?_⟩)
  · first | assumption | omega
  · exact hp3
theorem Y_X8_goodRags : zYV yX8_goodRags cX8_goodRags 2 (some .int) 1 := ⟨⟨q2443, q2444, q132, q2445⟩, by decide +kernel, by decide⟩
set_option maxRecDepth 100000 in
theorem c_X8_goodRags (l : Launch) (g : zG) (ma : Nat → Nat) (M : MM) (s : Int) (A : Ab) (P Q : Int) (hs : rng s) (hA : mRep M A) (hk : okA P Q A) (hP : P ≤ 900000) (hQ : Q ≤ 9000000) : mInt l yX8_goodRags cX8_goodRags 2 (some .int) 7 [vR (ma 0), vI s] g ma M (fun r M' => outP (gIn 0 3 s) A (goodL s A.1.2.1) A r M') := by
  refine mInt.mk (L0 := [some (vR (ma 0)), some (vI s)]) (by decide) rfl (Nat.le_of_ble_eq_true rfl) rfl (fun C h hg hl hR X => ?_)
  subst hg hl
  obtain ⟨hS, hN, hH, hT⟩ := id hA
  obtain ⟨hkS, -, -, -⟩ := id hk
  obtain ⟨⟨kc1, -, kc3, kc4, kc5⟩, kb, kp, kq⟩ := id hkS
  have hI := hk.I hA hP hQ
  have hn := mI_n hI
  have hh0 : 0 ≤ M 0 0 ∧ M 0 0 ≤ 5 := ⟨by rw [hH.1]; omega, by rw [hH.1]; have := hH.2.1; omega⟩
  have s0 := sc_at hA (j := 0) (by unfold scI; omega)
  have s1 := sc_at hA (j := 1) (by unfold scI; omega)
  have hA0 : mRep (mset M 0 3 0) A := hA.num (by decide)
  have hS0 := hA0.1
  have hI0 : mI (mset M 0 3 0) := hk.I hA0 hP hQ
  have q4 := hS.2.1.1
  have q5 := hS.2.2.1.1
  have q6 := hS.2.2.2.1
  have p4 := hS0.2.1.1
  have p5 := hS0.2.2.1.1
  have p6 := hS0.2.2.2.1
  refine z_aload_n (pc' := 1) X dX8_goodRags_0 rfl rfl ?_
  refine z_iload_n (pc' := 2) X dX8_goodRags_1 rfl rfl ?_
  refine z_S_fun1 (pc' := 5) X Y_X8_isSort q2126 dX8_goodRags_2 rfl (by decide) (Nat.le_refl _) (Nat.le_refl _) (Nat.le_of_ble_eq_true rfl) (fun h _ => c_X8_isSort _ _ _ _ (by first | assumption | omega)) (fun r2 hr2 hp2 => ?_)
  refine z_if_eq (tgt := 12) (pc' := 8) X (by first | assumption | omega) dX8_goodRags_5 rfl (by decide) (fun c5 => ?_) (fun c5 => ?_)
  · refine z_iconst (pc' := 13) X dX8_goodRags_12 rfl ?_
    refine z_mput (pc' := 16) X 10 3 rfl (by decide) q2073 rfl rfl rfl (by first | assumption | omega) dX8_goodRags_13 rfl (fun hR13 => ?_)
    refine z_aload_n (pc' := 17) X dX8_goodRags_16 rfl rfl ?_
    have hv17 := hR13 0 3
    refine z_mget (pc' := 20) X 10 rfl (by decide) q2073 rfl dX8_goodRags_17 rfl ?_
    rw [mset_s]
    rw [mset_s] at hv17
    refine z_if_le (tgt := 27) (pc' := 23) X (by first | assumption | omega) dX8_goodRags_20 rfl (by decide) (fun c20 => ?_) (fun c20 => ?_)
    · exact absurd c20 (by decide)
    · refine z_iconst (pc' := 24) X dX8_goodRags_23 rfl ?_
      refine z_goto (tgt := 32) X dX8_goodRags_24 (by decide) ?_
      refine z_ireturn X dX8_goodRags_32 (Nat.le_refl _) (Nat.le_refl _) (fun _ hh => ⟨_, hh, _, rfl, ?_, ?_⟩)
      · first | assumption | omega
      · exact ⟨by rw [mset_s]; unfold gIn; (repeat' split) <;> omega, Or.inl ⟨by unfold gIn; (repeat' split) <;> omega, hA.num (by decide)⟩⟩
  · refine z_iconst (pc' := 9) X dX8_goodRags_8 rfl ?_
    refine z_goto (tgt := 13) X dX8_goodRags_9 (by decide) ?_
    refine z_mput (pc' := 16) X 10 3 rfl (by decide) q2073 rfl rfl rfl (by first | assumption | omega) dX8_goodRags_13 rfl (fun hR13 => ?_)
    refine z_aload_n (pc' := 17) X dX8_goodRags_16 rfl rfl ?_
    have hv17 := hR13 0 3
    refine z_mget (pc' := 20) X 10 rfl (by decide) q2073 rfl dX8_goodRags_17 rfl ?_
    rw [mset_s]
    rw [mset_s] at hv17
    refine z_if_le (tgt := 27) (pc' := 23) X (by first | assumption | omega) dX8_goodRags_20 rfl (by decide) (fun c20 => ?_) (fun c20 => ?_)
    · refine z_aload_n (pc' := 28) X dX8_goodRags_27 rfl rfl ?_
      refine z_iload_n (pc' := 29) X dX8_goodRags_28 rfl rfl ?_
      refine z_V_fun1 (pc' := 32) X rfl Y_X8_good q2228 dX8_goodRags_29 rfl (by decide) (Nat.le_refl _) (Nat.le_refl _) (Nat.le_of_ble_eq_true rfl) (c_X8_good _ _ _ _ _ (by first | assumption | omega) (by first | assumption | omega)) (fun r29 hr29 hp29 => ?_)
      subst hp29
      refine z_ireturn X dX8_goodRags_32 (Nat.le_refl _) (Nat.le_refl _) (fun _ hh => ⟨_, hh, _, rfl, ?_, ?_⟩)
      · first | assumption | omega
      · have hg0 : gIn 0 3 s = 0 := by unfold gIn; (repeat' split) <;> omega
        rw [hg0]
        exact ⟨mset_s, Or.inr ⟨rfl, goodM_L hS0.2.1 s, hA0⟩⟩
    · exact absurd c20 (by decide)
theorem Y_X8_partsOf : zYV yX8_partsOf cX8_partsOf 2 (some .int) 1 := ⟨⟨q2455, q2456, q132, q2457⟩, by decide +kernel, by decide⟩
set_option maxRecDepth 100000 in
theorem c_X8_partsOf (l : Launch) (g : zG) (ma : Nat → Nat) (M : MM) (s : Int) (A : Ab) (P Q : Int) (hs : rng s) (hA : mRep M A) (hk : okA P Q A) (hP : P ≤ 900000) (hQ : Q ≤ 9000000) : mInt l yX8_partsOf cX8_partsOf 2 (some .int) 7 [vR (ma 0), vI s] g ma M (fun r M' => outP (gIn 0 3 s) A (A.1.1 (8 + s)) A r M') := by
  refine mInt.mk (L0 := [some (vR (ma 0)), some (vI s)]) (by decide) rfl (Nat.le_of_ble_eq_true rfl) rfl (fun C h hg hl hR X => ?_)
  subst hg hl
  obtain ⟨hS, hN, hH, hT⟩ := id hA
  obtain ⟨hkS, -, -, -⟩ := id hk
  obtain ⟨⟨kc1, -, kc3, kc4, kc5⟩, kb, kp, kq⟩ := id hkS
  have hI := hk.I hA hP hQ
  have hn := mI_n hI
  have hh0 : 0 ≤ M 0 0 ∧ M 0 0 ≤ 5 := ⟨by rw [hH.1]; omega, by rw [hH.1]; have := hH.2.1; omega⟩
  have s0 := sc_at hA (j := 0) (by unfold scI; omega)
  have s1 := sc_at hA (j := 1) (by unfold scI; omega)
  have hA0 : mRep (mset M 0 3 0) A := hA.num (by decide)
  have hS0 := hA0.1
  have hI0 : mI (mset M 0 3 0) := hk.I hA0 hP hQ
  have q4 := hS.2.1.1
  have q5 := hS.2.2.1.1
  have q6 := hS.2.2.2.1
  have p4 := hS0.2.1.1
  have p5 := hS0.2.2.1.1
  have p6 := hS0.2.2.2.1
  refine z_aload_n (pc' := 1) X dX8_partsOf_0 rfl rfl ?_
  refine z_iload_n (pc' := 2) X dX8_partsOf_1 rfl rfl ?_
  refine z_S_fun1 (pc' := 5) X Y_X8_isSort q2126 dX8_partsOf_2 rfl (by decide) (Nat.le_refl _) (Nat.le_refl _) (Nat.le_of_ble_eq_true rfl) (fun h _ => c_X8_isSort _ _ _ _ (by first | assumption | omega)) (fun r2 hr2 hp2 => ?_)
  refine z_if_eq (tgt := 12) (pc' := 8) X (by first | assumption | omega) dX8_partsOf_5 rfl (by decide) (fun c5 => ?_) (fun c5 => ?_)
  · refine z_iconst (pc' := 13) X dX8_partsOf_12 rfl ?_
    refine z_mput (pc' := 16) X 10 3 rfl (by decide) q2073 rfl rfl rfl (by first | assumption | omega) dX8_partsOf_13 rfl (fun hR13 => ?_)
    refine z_aload_n (pc' := 17) X dX8_partsOf_16 rfl rfl ?_
    have hv17 := hR13 0 3
    refine z_mget (pc' := 20) X 10 rfl (by decide) q2073 rfl dX8_partsOf_17 rfl ?_
    rw [mset_s]
    rw [mset_s] at hv17
    refine z_if_le (tgt := 27) (pc' := 23) X (by first | assumption | omega) dX8_partsOf_20 rfl (by decide) (fun c20 => ?_) (fun c20 => ?_)
    · exact absurd c20 (by decide)
    · refine z_iconst (pc' := 24) X dX8_partsOf_23 rfl ?_
      refine z_goto (tgt := 36) X dX8_partsOf_24 (by decide) ?_
      refine z_ireturn X dX8_partsOf_36 (Nat.le_refl _) (Nat.le_refl _) (fun _ hh => ⟨_, hh, _, rfl, ?_, ?_⟩)
      · first | assumption | omega
      · exact ⟨by rw [mset_s]; unfold gIn; (repeat' split) <;> omega, Or.inl ⟨by unfold gIn; (repeat' split) <;> omega, hA.num (by decide)⟩⟩
  · refine z_iconst (pc' := 9) X dX8_partsOf_8 rfl ?_
    refine z_goto (tgt := 13) X dX8_partsOf_9 (by decide) ?_
    refine z_mput (pc' := 16) X 10 3 rfl (by decide) q2073 rfl rfl rfl (by first | assumption | omega) dX8_partsOf_13 rfl (fun hR13 => ?_)
    refine z_aload_n (pc' := 17) X dX8_partsOf_16 rfl rfl ?_
    have hv17 := hR13 0 3
    refine z_mget (pc' := 20) X 10 rfl (by decide) q2073 rfl dX8_partsOf_17 rfl ?_
    rw [mset_s]
    rw [mset_s] at hv17
    refine z_if_le (tgt := 27) (pc' := 23) X (by first | assumption | omega) dX8_partsOf_20 rfl (by decide) (fun c20 => ?_) (fun c20 => ?_)
    · refine z_aload_n (pc' := 28) X dX8_partsOf_27 rfl rfl ?_
      refine z_mget (pc' := 31) X 0 rfl (by decide) q2063 rfl dX8_partsOf_28 rfl ?_
      refine z_bipush (pc' := 33) X dX8_partsOf_31 rfl (by decide) ?_
      refine z_iload_n (pc' := 34) X dX8_partsOf_33 rfl rfl ?_
      refine z_iadd (pc' := 35) X dX8_partsOf_34 rfl ?_
      refine z_mld (pc' := 36) X (r := 1) (by decide) (show 0 ≤ _ ∧ _ < (321 : Int) by omega) dX8_partsOf_35 rfl (fun hv35 => ?_)
      refine z_ireturn X dX8_partsOf_36 (Nat.le_refl _) (Nat.le_refl _) (fun _ hh => ⟨_, hh, _, rfl, ?_, ?_⟩)
      · first | assumption | omega
      · have hg0 : gIn 0 3 s = 0 := by unfold gIn; (repeat' split) <;> omega
        rw [hg0]
        exact ⟨mset_s, Or.inr ⟨rfl, hS0.1 _ (by unfold scI; omega), hA0⟩⟩
    · exact absurd c20 (by decide)
theorem Y_X8_shareOf : zYV yX8_shareOf cX8_shareOf 3 (some .int) 2 := ⟨⟨q2463, q2464, q132, q2465⟩, by decide +kernel, by decide⟩
set_option maxRecDepth 100000 in
theorem c_X8_shareOf (l : Launch) (g : zG) (ma : Nat → Nat) (M : MM) (n s : Int) (A : Ab) (P Q : Int) (hn : rng n) (hs : rng s) (hA : mRep M A) (hk : okA P Q A) (hP : P ≤ 900000) (hQ : Q ≤ 9000000) : mInt l yX8_shareOf cX8_shareOf 3 (some .int) 7 [vR (ma 0), vI n, vI s] g ma M (fun r M' => outP (gShr n s) A (mShare A.1.1 n s) A r M') := by
  refine mInt.mk (L0 := [some (vR (ma 0)), some (vI n), some (vI s)]) (by decide) rfl (Nat.le_of_ble_eq_true rfl) rfl (fun C h hg hl hR X => ?_)
  subst hg hl
  obtain ⟨hS, hN, hH, hT⟩ := id hA
  obtain ⟨hkS, -, -, -⟩ := id hk
  obtain ⟨⟨kc1, -, kc3, kc4, kc5⟩, kb, kp, kq⟩ := id hkS
  have hI := hk.I hA hP hQ
  have hn := mI_n hI
  have hh0 : 0 ≤ M 0 0 ∧ M 0 0 ≤ 5 := ⟨by rw [hH.1]; omega, by rw [hH.1]; have := hH.2.1; omega⟩
  have s0 := sc_at hA (j := 0) (by unfold scI; omega)
  have s1 := sc_at hA (j := 1) (by unfold scI; omega)
  have hA0 : mRep (mset M 0 3 0) A := hA.num (by decide)
  have hS0 := hA0.1
  have hI0 : mI (mset M 0 3 0) := hk.I hA0 hP hQ
  have q4 := hS.2.1.1
  have q5 := hS.2.2.1.1
  have q6 := hS.2.2.2.1
  have p4 := hS0.2.1.1
  have p5 := hS0.2.2.1.1
  have p6 := hS0.2.2.2.1
  refine z_aload_n (pc' := 1) X dX8_shareOf_0 rfl rfl ?_
  refine z_iload_n (pc' := 2) X dX8_shareOf_1 rfl rfl ?_
  refine z_S_fun1 (pc' := 5) X Y_X8_isPounds q2213 dX8_shareOf_2 rfl (by decide) (Nat.le_refl _) (Nat.le_refl _) (Nat.le_of_ble_eq_true rfl) (fun h _ => c_X8_isPounds _ _ _ _ (by first | assumption | omega)) (fun r2 hr2 hp2 => ?_)
  refine z_if_eq (tgt := 19) (pc' := 8) X (by first | assumption | omega) dX8_shareOf_5 rfl (by decide) (fun c5 => ?_) (fun c5 => ?_)
  · refine z_iconst (pc' := 20) X dX8_shareOf_19 rfl ?_
    refine z_mput (pc' := 23) X 10 3 rfl (by decide) q2073 rfl rfl rfl (by first | assumption | omega) dX8_shareOf_20 rfl (fun hR20 => ?_)
    refine z_aload_n (pc' := 24) X dX8_shareOf_23 rfl rfl ?_
    have hv24 := hR20 0 3
    refine z_mget (pc' := 27) X 10 rfl (by decide) q2073 rfl dX8_shareOf_24 rfl ?_
    rw [mset_s]
    rw [mset_s] at hv24
    refine z_if_le (tgt := 34) (pc' := 30) X (by first | assumption | omega) dX8_shareOf_27 rfl (by decide) (fun c27 => ?_) (fun c27 => ?_)
    · exact absurd c27 (by decide)
    · refine z_iconst (pc' := 31) X dX8_shareOf_30 rfl ?_
      refine z_goto (tgt := 40) X dX8_shareOf_31 (by decide) ?_
      refine z_ireturn X dX8_shareOf_40 (Nat.le_refl _) (Nat.le_refl _) (fun _ hh => ⟨_, hh, _, rfl, ?_, ?_⟩)
      · first | assumption | omega
      · exact ⟨by rw [mset_s]; unfold gShr; (repeat' split) <;> omega, Or.inl ⟨by unfold gShr; (repeat' split) <;> omega, hA.num (by decide)⟩⟩
  · refine z_iload_n (pc' := 9) X dX8_shareOf_8 rfl rfl ?_
    refine z_S_fun1 (pc' := 12) X Y_X8_isSort q2126 dX8_shareOf_9 rfl (by decide) (Nat.le_refl _) (Nat.le_refl _) (Nat.le_of_ble_eq_true rfl) (fun h _ => c_X8_isSort _ _ _ _ (by first | assumption | omega)) (fun r9 hr9 hp9 => ?_)
    refine z_if_eq (tgt := 19) (pc' := 15) X (by first | assumption | omega) dX8_shareOf_12 rfl (by decide) (fun c12 => ?_) (fun c12 => ?_)
    · refine z_iconst (pc' := 20) X dX8_shareOf_19 rfl ?_
      refine z_mput (pc' := 23) X 10 3 rfl (by decide) q2073 rfl rfl rfl (by first | assumption | omega) dX8_shareOf_20 rfl (fun hR20 => ?_)
      refine z_aload_n (pc' := 24) X dX8_shareOf_23 rfl rfl ?_
      have hv24 := hR20 0 3
      refine z_mget (pc' := 27) X 10 rfl (by decide) q2073 rfl dX8_shareOf_24 rfl ?_
      rw [mset_s]
      rw [mset_s] at hv24
      refine z_if_le (tgt := 34) (pc' := 30) X (by first | assumption | omega) dX8_shareOf_27 rfl (by decide) (fun c27 => ?_) (fun c27 => ?_)
      · exact absurd c27 (by decide)
      · refine z_iconst (pc' := 31) X dX8_shareOf_30 rfl ?_
        refine z_goto (tgt := 40) X dX8_shareOf_31 (by decide) ?_
        refine z_ireturn X dX8_shareOf_40 (Nat.le_refl _) (Nat.le_refl _) (fun _ hh => ⟨_, hh, _, rfl, ?_, ?_⟩)
        · first | assumption | omega
        · exact ⟨by rw [mset_s]; unfold gShr; (repeat' split) <;> omega, Or.inl ⟨by unfold gShr; (repeat' split) <;> omega, hA.num (by decide)⟩⟩
    · refine z_iconst (pc' := 16) X dX8_shareOf_15 rfl ?_
      refine z_goto (tgt := 20) X dX8_shareOf_16 (by decide) ?_
      refine z_mput (pc' := 23) X 10 3 rfl (by decide) q2073 rfl rfl rfl (by first | assumption | omega) dX8_shareOf_20 rfl (fun hR20 => ?_)
      refine z_aload_n (pc' := 24) X dX8_shareOf_23 rfl rfl ?_
      have hv24 := hR20 0 3
      refine z_mget (pc' := 27) X 10 rfl (by decide) q2073 rfl dX8_shareOf_24 rfl ?_
      rw [mset_s]
      rw [mset_s] at hv24
      refine z_if_le (tgt := 34) (pc' := 30) X (by first | assumption | omega) dX8_shareOf_27 rfl (by decide) (fun c27 => ?_) (fun c27 => ?_)
      · refine z_aload_n (pc' := 35) X dX8_shareOf_34 rfl rfl ?_
        refine z_iload_n (pc' := 36) X dX8_shareOf_35 rfl rfl ?_
        refine z_iload_n (pc' := 37) X dX8_shareOf_36 rfl rfl ?_
        refine z_V_int2 (pc' := 40) X rfl Y_X8_share q2466 dX8_shareOf_37 rfl (by decide) (Nat.le_refl _) (Nat.le_refl _) (Nat.le_of_ble_eq_true rfl) (c_X8_share _ _ _ _ _ _ (by first | assumption | omega) (by first | assumption | omega) (by first | assumption | omega)) (fun r37 M37 hr37 hp37 hR37 => ?_)
        refine z_ireturn X dX8_shareOf_40 (Nat.le_refl _) (Nat.le_refl _) (fun _ hh => ⟨_, hh, _, rfl, ?_, ?_⟩)
        · first | assumption | omega
        · have hg0 : gShr n s = 0 := by unfold gShr; (repeat' split) <;> omega
          rw [hg0]
          exact ⟨by rw [hp37.2 0 (by decide)]; exact mset_s, Or.inr ⟨rfl, by rw [hp37.1]; exact (mShare_c (fun j a b => hS0.1 j (by unfold scI; omega)) ⟨by omega, by omega⟩).1, hA0.row5 hp37.2⟩⟩
      · exact absurd c27 (by decide)
theorem Y_X8_ofVat : zYV yX8_ofVat cX8_ofVat 3 (some .int) 2 := ⟨⟨q2476, qs92, q132, q2477⟩, by decide +kernel, by decide⟩
set_option maxRecDepth 100000 in
theorem c_X8_ofVat (l : Launch) (g : zG) (ma : Nat → Nat) (M : MM) (v w : Int) (A : Ab) (P Q : Int) (hv : rng v) (hw : 0 ≤ w ∧ w < 3) (hA : mRep M A) (hk : okA P Q A) (hP : P ≤ 900000) (hQ : Q ≤ 9000000) : mInt l yX8_ofVat cX8_ofVat 3 (some .int) 6 [vR (ma 0), vI v, vI w] g ma M (fun r M' => outP (gIn 0 2 v) A (A.1.1 (117 + 3 * v + w)) A r M') := by
  refine mInt.mk (L0 := [some (vR (ma 0)), some (vI v), some (vI w)]) (by decide) rfl (Nat.le_of_ble_eq_true rfl) rfl (fun C h hg hl hR X => ?_)
  subst hg hl
  obtain ⟨hS, hN, hH, hT⟩ := id hA
  obtain ⟨hkS, -, -, -⟩ := id hk
  obtain ⟨⟨kc1, -, kc3, kc4, kc5⟩, kb, kp, kq⟩ := id hkS
  have hI := hk.I hA hP hQ
  have hn := mI_n hI
  have hh0 : 0 ≤ M 0 0 ∧ M 0 0 ≤ 5 := ⟨by rw [hH.1]; omega, by rw [hH.1]; have := hH.2.1; omega⟩
  have s0 := sc_at hA (j := 0) (by unfold scI; omega)
  have s1 := sc_at hA (j := 1) (by unfold scI; omega)
  have hA0 : mRep (mset M 0 3 0) A := hA.num (by decide)
  have hS0 := hA0.1
  have hI0 : mI (mset M 0 3 0) := hk.I hA0 hP hQ
  have q4 := hS.2.1.1
  have q5 := hS.2.2.1.1
  have q6 := hS.2.2.2.1
  have p4 := hS0.2.1.1
  have p5 := hS0.2.2.1.1
  have p6 := hS0.2.2.2.1
  refine z_aload_n (pc' := 1) X dX8_ofVat_0 rfl rfl ?_
  refine z_iload_n (pc' := 2) X dX8_ofVat_1 rfl rfl ?_
  refine z_S_fun1 (pc' := 5) X Y_X8_isVat q2210 dX8_ofVat_2 rfl (by decide) (Nat.le_refl _) (Nat.le_refl _) (Nat.le_of_ble_eq_true rfl) (fun h _ => c_X8_isVat _ _ _ _ (by first | assumption | omega)) (fun r2 hr2 hp2 => ?_)
  refine z_if_eq (tgt := 12) (pc' := 8) X (by first | assumption | omega) dX8_ofVat_5 rfl (by decide) (fun c5 => ?_) (fun c5 => ?_)
  · refine z_iconst (pc' := 13) X dX8_ofVat_12 rfl ?_
    refine z_mput (pc' := 16) X 10 3 rfl (by decide) q2073 rfl rfl rfl (by first | assumption | omega) dX8_ofVat_13 rfl (fun hR13 => ?_)
    refine z_aload_n (pc' := 17) X dX8_ofVat_16 rfl rfl ?_
    have hv17 := hR13 0 3
    refine z_mget (pc' := 20) X 10 rfl (by decide) q2073 rfl dX8_ofVat_17 rfl ?_
    rw [mset_s]
    rw [mset_s] at hv17
    refine z_if_le (tgt := 27) (pc' := 23) X (by first | assumption | omega) dX8_ofVat_20 rfl (by decide) (fun c20 => ?_) (fun c20 => ?_)
    · exact absurd c20 (by decide)
    · refine z_iconst (pc' := 24) X dX8_ofVat_23 rfl ?_
      refine z_goto (tgt := 40) X dX8_ofVat_24 (by decide) ?_
      refine z_ireturn X dX8_ofVat_40 (Nat.le_refl _) (Nat.le_refl _) (fun _ hh => ⟨_, hh, _, rfl, ?_, ?_⟩)
      · first | assumption | omega
      · exact ⟨by rw [mset_s]; unfold gIn; (repeat' split) <;> omega, Or.inl ⟨by unfold gIn; (repeat' split) <;> omega, hA.num (by decide)⟩⟩
  · refine z_iconst (pc' := 9) X dX8_ofVat_8 rfl ?_
    refine z_goto (tgt := 13) X dX8_ofVat_9 (by decide) ?_
    refine z_mput (pc' := 16) X 10 3 rfl (by decide) q2073 rfl rfl rfl (by first | assumption | omega) dX8_ofVat_13 rfl (fun hR13 => ?_)
    refine z_aload_n (pc' := 17) X dX8_ofVat_16 rfl rfl ?_
    have hv17 := hR13 0 3
    refine z_mget (pc' := 20) X 10 rfl (by decide) q2073 rfl dX8_ofVat_17 rfl ?_
    rw [mset_s]
    rw [mset_s] at hv17
    refine z_if_le (tgt := 27) (pc' := 23) X (by first | assumption | omega) dX8_ofVat_20 rfl (by decide) (fun c20 => ?_) (fun c20 => ?_)
    · refine z_aload_n (pc' := 28) X dX8_ofVat_27 rfl rfl ?_
      refine z_mget (pc' := 31) X 0 rfl (by decide) q2063 rfl dX8_ofVat_28 rfl ?_
      refine z_bipush (pc' := 33) X dX8_ofVat_31 rfl (by decide) ?_
      refine z_iconst (pc' := 34) X dX8_ofVat_33 rfl ?_
      refine z_iload_n (pc' := 35) X dX8_ofVat_34 rfl rfl ?_
      refine z_imul (pc' := 36) X dX8_ofVat_35 rfl ?_
      refine z_iadd (pc' := 37) X dX8_ofVat_36 rfl ?_
      refine z_iload_n (pc' := 38) X dX8_ofVat_37 rfl rfl ?_
      refine z_iadd (pc' := 39) X dX8_ofVat_38 rfl ?_
      refine z_mld (pc' := 40) X (r := 1) (by decide) (show 0 ≤ _ ∧ _ < (321 : Int) by omega) dX8_ofVat_39 rfl (fun hv39 => ?_)
      refine z_ireturn X dX8_ofVat_40 (Nat.le_refl _) (Nat.le_refl _) (fun _ hh => ⟨_, hh, _, rfl, ?_, ?_⟩)
      · first | assumption | omega
      · have hg0 : gIn 0 2 v = 0 := by unfold gIn; (repeat' split) <;> omega
        rw [hg0]
        exact ⟨mset_s, Or.inr ⟨rfl, mV_S hS0 (by omega) hw, hA0⟩⟩
    · exact absurd c20 (by decide)
theorem Y_X8_ofMould : zYV yX8_ofMould cX8_ofMould 3 (some .int) 2 := ⟨⟨q2496, qs93, q132, q2497⟩, by decide +kernel, by decide⟩
set_option maxRecDepth 100000 in
theorem c_X8_ofMould (l : Launch) (g : zG) (ma : Nat → Nat) (M : MM) (v w : Int) (A : Ab) (P Q : Int) (hv : rng v) (hw : 0 ≤ w ∧ w < 3) (hA : mRep M A) (hk : okA P Q A) (hP : P ≤ 900000) (hQ : Q ≤ 9000000) : mInt l yX8_ofMould cX8_ofMould 3 (some .int) 6 [vR (ma 0), vI v, vI w] g ma M (fun r M' => outP (gIn 0 4 v) A (A.1.1 (126 + 3 * v + w)) A r M') := by
  refine mInt.mk (L0 := [some (vR (ma 0)), some (vI v), some (vI w)]) (by decide) rfl (Nat.le_of_ble_eq_true rfl) rfl (fun C h hg hl hR X => ?_)
  subst hg hl
  obtain ⟨hS, hN, hH, hT⟩ := id hA
  obtain ⟨hkS, -, -, -⟩ := id hk
  obtain ⟨⟨kc1, -, kc3, kc4, kc5⟩, kb, kp, kq⟩ := id hkS
  have hI := hk.I hA hP hQ
  have hn := mI_n hI
  have hh0 : 0 ≤ M 0 0 ∧ M 0 0 ≤ 5 := ⟨by rw [hH.1]; omega, by rw [hH.1]; have := hH.2.1; omega⟩
  have s0 := sc_at hA (j := 0) (by unfold scI; omega)
  have s1 := sc_at hA (j := 1) (by unfold scI; omega)
  have hA0 : mRep (mset M 0 3 0) A := hA.num (by decide)
  have hS0 := hA0.1
  have hI0 : mI (mset M 0 3 0) := hk.I hA0 hP hQ
  have q4 := hS.2.1.1
  have q5 := hS.2.2.1.1
  have q6 := hS.2.2.2.1
  have p4 := hS0.2.1.1
  have p5 := hS0.2.2.1.1
  have p6 := hS0.2.2.2.1
  refine z_aload_n (pc' := 1) X dX8_ofMould_0 rfl rfl ?_
  refine z_iload_n (pc' := 2) X dX8_ofMould_1 rfl rfl ?_
  refine z_S_fun1 (pc' := 5) X Y_X8_isMould q2270 dX8_ofMould_2 rfl (by decide) (Nat.le_refl _) (Nat.le_refl _) (Nat.le_of_ble_eq_true rfl) (fun h _ => c_X8_isMould _ _ _ _ (by first | assumption | omega)) (fun r2 hr2 hp2 => ?_)
  refine z_if_eq (tgt := 12) (pc' := 8) X (by first | assumption | omega) dX8_ofMould_5 rfl (by decide) (fun c5 => ?_) (fun c5 => ?_)
  · refine z_iconst (pc' := 13) X dX8_ofMould_12 rfl ?_
    refine z_mput (pc' := 16) X 10 3 rfl (by decide) q2073 rfl rfl rfl (by first | assumption | omega) dX8_ofMould_13 rfl (fun hR13 => ?_)
    refine z_aload_n (pc' := 17) X dX8_ofMould_16 rfl rfl ?_
    have hv17 := hR13 0 3
    refine z_mget (pc' := 20) X 10 rfl (by decide) q2073 rfl dX8_ofMould_17 rfl ?_
    rw [mset_s]
    rw [mset_s] at hv17
    refine z_if_le (tgt := 27) (pc' := 23) X (by first | assumption | omega) dX8_ofMould_20 rfl (by decide) (fun c20 => ?_) (fun c20 => ?_)
    · exact absurd c20 (by decide)
    · refine z_iconst (pc' := 24) X dX8_ofMould_23 rfl ?_
      refine z_goto (tgt := 40) X dX8_ofMould_24 (by decide) ?_
      refine z_ireturn X dX8_ofMould_40 (Nat.le_refl _) (Nat.le_refl _) (fun _ hh => ⟨_, hh, _, rfl, ?_, ?_⟩)
      · first | assumption | omega
      · exact ⟨by rw [mset_s]; unfold gIn; (repeat' split) <;> omega, Or.inl ⟨by unfold gIn; (repeat' split) <;> omega, hA.num (by decide)⟩⟩
  · refine z_iconst (pc' := 9) X dX8_ofMould_8 rfl ?_
    refine z_goto (tgt := 13) X dX8_ofMould_9 (by decide) ?_
    refine z_mput (pc' := 16) X 10 3 rfl (by decide) q2073 rfl rfl rfl (by first | assumption | omega) dX8_ofMould_13 rfl (fun hR13 => ?_)
    refine z_aload_n (pc' := 17) X dX8_ofMould_16 rfl rfl ?_
    have hv17 := hR13 0 3
    refine z_mget (pc' := 20) X 10 rfl (by decide) q2073 rfl dX8_ofMould_17 rfl ?_
    rw [mset_s]
    rw [mset_s] at hv17
    refine z_if_le (tgt := 27) (pc' := 23) X (by first | assumption | omega) dX8_ofMould_20 rfl (by decide) (fun c20 => ?_) (fun c20 => ?_)
    · refine z_aload_n (pc' := 28) X dX8_ofMould_27 rfl rfl ?_
      refine z_mget (pc' := 31) X 0 rfl (by decide) q2063 rfl dX8_ofMould_28 rfl ?_
      refine z_bipush (pc' := 33) X dX8_ofMould_31 rfl (by decide) ?_
      refine z_iconst (pc' := 34) X dX8_ofMould_33 rfl ?_
      refine z_iload_n (pc' := 35) X dX8_ofMould_34 rfl rfl ?_
      refine z_imul (pc' := 36) X dX8_ofMould_35 rfl ?_
      refine z_iadd (pc' := 37) X dX8_ofMould_36 rfl ?_
      refine z_iload_n (pc' := 38) X dX8_ofMould_37 rfl rfl ?_
      refine z_iadd (pc' := 39) X dX8_ofMould_38 rfl ?_
      refine z_mld (pc' := 40) X (r := 1) (by decide) (show 0 ≤ _ ∧ _ < (321 : Int) by omega) dX8_ofMould_39 rfl (fun hv39 => ?_)
      refine z_ireturn X dX8_ofMould_40 (Nat.le_refl _) (Nat.le_refl _) (fun _ hh => ⟨_, hh, _, rfl, ?_, ?_⟩)
      · first | assumption | omega
      · have hg0 : gIn 0 4 v = 0 := by unfold gIn; (repeat' split) <;> omega
        rw [hg0]
        exact ⟨mset_s, Or.inr ⟨rfl, mMo_S hS0 (by omega) hw, hA0⟩⟩
    · exact absurd c20 (by decide)
theorem Y_X8_unitsIn : zYV yX8_unitsIn cX8_unitsIn 2 (some .int) 1 := ⟨⟨q2471, q2472, q132, q2473⟩, by decide +kernel, by decide⟩
set_option maxRecDepth 100000 in
theorem c_X8_unitsIn (l : Launch) (g : zG) (ma : Nat → Nat) (M : MM) (v : Int) (A : Ab) (P Q : Int) (hv : rng v) (hA : mRep M A) (hk : okA P Q A) (hP : P ≤ 900000) (hQ : Q ≤ 9000000) : mInt l yX8_unitsIn cX8_unitsIn 2 (some .int) 7 [vR (ma 0), vI v] g ma M (fun r M' => outP (gIn 0 2 v) A (A.1.1 (117 + 3 * v)) A r M') := by
  refine mInt.mk (L0 := [some (vR (ma 0)), some (vI v)]) (by decide) rfl (Nat.le_of_ble_eq_true rfl) rfl (fun C h hg hl hR X => ?_)
  subst hg hl
  refine z_aload_n (pc' := 1) X dX8_unitsIn_0 rfl rfl ?_
  refine z_iload_n (pc' := 2) X dX8_unitsIn_1 rfl rfl ?_
  refine z_iconst (pc' := 3) X dX8_unitsIn_2 rfl ?_
  refine z_V_int2 (pc' := 6) X rfl Y_X8_ofVat q2474 dX8_unitsIn_3 rfl (by decide) (Nat.le_refl _) (Nat.le_refl _) (Nat.le_of_ble_eq_true rfl) (c_X8_ofVat _ _ _ _ v 0 A P Q hv (by decide) hA hk hP hQ) (fun r3 M3 hr3 hp3 hR3 => ?_)
  refine z_ireturn X dX8_unitsIn_6 (Nat.le_refl _) (Nat.le_refl _) (fun _ hh => ⟨_, hh, _, rfl, ?_, ?_⟩)
  · first | assumption | omega
  · rw [show (117 : Int) + 3 * v + 0 = 117 + 3 * v by omega] at hp3
    exact hp3
theorem Y_X8_hoursOf : zYV yX8_hoursOf cX8_hoursOf 2 (some .int) 1 := ⟨⟨q2479, q2480, q132, q2481⟩, by decide +kernel, by decide⟩
set_option maxRecDepth 100000 in
theorem c_X8_hoursOf (l : Launch) (g : zG) (ma : Nat → Nat) (M : MM) (v : Int) (A : Ab) (P Q : Int) (hv : rng v) (hA : mRep M A) (hk : okA P Q A) (hP : P ≤ 900000) (hQ : Q ≤ 9000000) : mInt l yX8_hoursOf cX8_hoursOf 2 (some .int) 7 [vR (ma 0), vI v] g ma M (fun r M' => outP (gIn 0 2 v) A (A.1.1 (117 + 3 * v + 1)) A r M') := by
  refine mInt.mk (L0 := [some (vR (ma 0)), some (vI v)]) (by decide) rfl (Nat.le_of_ble_eq_true rfl) rfl (fun C h hg hl hR X => ?_)
  subst hg hl
  refine z_aload_n (pc' := 1) X dX8_hoursOf_0 rfl rfl ?_
  refine z_iload_n (pc' := 2) X dX8_hoursOf_1 rfl rfl ?_
  refine z_iconst (pc' := 3) X dX8_hoursOf_2 rfl ?_
  refine z_V_int2 (pc' := 6) X rfl Y_X8_ofVat q2474 dX8_hoursOf_3 rfl (by decide) (Nat.le_refl _) (Nat.le_refl _) (Nat.le_of_ble_eq_true rfl) (c_X8_ofVat _ _ _ _ v 1 A P Q hv (by decide) hA hk hP hQ) (fun r3 M3 hr3 hp3 hR3 => ?_)
  refine z_ireturn X dX8_hoursOf_6 (Nat.le_refl _) (Nat.le_refl _) (fun _ hh => ⟨_, hh, _, rfl, ?_, ?_⟩)
  · first | assumption | omega
  · exact hp3
theorem Y_X8_strengthOf : zYV yX8_strengthOf cX8_strengthOf 2 (some .int) 1 := ⟨⟨q2483, q2484, q132, q2485⟩, by decide +kernel, by decide⟩
set_option maxRecDepth 100000 in
theorem c_X8_strengthOf (l : Launch) (g : zG) (ma : Nat → Nat) (M : MM) (v : Int) (A : Ab) (P Q : Int) (hv : rng v) (hA : mRep M A) (hk : okA P Q A) (hP : P ≤ 900000) (hQ : Q ≤ 9000000) : mInt l yX8_strengthOf cX8_strengthOf 2 (some .int) 7 [vR (ma 0), vI v] g ma M (fun r M' => outP (gIn 0 2 v) A (A.1.1 (117 + 3 * v + 2)) A r M') := by
  refine mInt.mk (L0 := [some (vR (ma 0)), some (vI v)]) (by decide) rfl (Nat.le_of_ble_eq_true rfl) rfl (fun C h hg hl hR X => ?_)
  subst hg hl
  refine z_aload_n (pc' := 1) X dX8_strengthOf_0 rfl rfl ?_
  refine z_iload_n (pc' := 2) X dX8_strengthOf_1 rfl rfl ?_
  refine z_iconst (pc' := 3) X dX8_strengthOf_2 rfl ?_
  refine z_V_int2 (pc' := 6) X rfl Y_X8_ofVat q2474 dX8_strengthOf_3 rfl (by decide) (Nat.le_refl _) (Nat.le_refl _) (Nat.le_of_ble_eq_true rfl) (c_X8_ofVat _ _ _ _ v 2 A P Q hv (by decide) hA hk hP hQ) (fun r3 M3 hr3 hp3 hR3 => ?_)
  refine z_ireturn X dX8_strengthOf_6 (Nat.le_refl _) (Nat.le_refl _) (fun _ hh => ⟨_, hh, _, rfl, ?_, ?_⟩)
  · first | assumption | omega
  · exact hp3
theorem Y_X8_markOf : zYV yX8_markOf cX8_markOf 2 (some .int) 1 := ⟨⟨q2491, q2492, q132, q2493⟩, by decide +kernel, by decide⟩
set_option maxRecDepth 100000 in
theorem c_X8_markOf (l : Launch) (g : zG) (ma : Nat → Nat) (M : MM) (v : Int) (A : Ab) (P Q : Int) (hv : rng v) (hA : mRep M A) (hk : okA P Q A) (hP : P ≤ 900000) (hQ : Q ≤ 9000000) : mInt l yX8_markOf cX8_markOf 2 (some .int) 7 [vR (ma 0), vI v] g ma M (fun r M' => outP (gIn 0 4 v) A (A.1.1 (126 + 3 * v)) A r M') := by
  refine mInt.mk (L0 := [some (vR (ma 0)), some (vI v)]) (by decide) rfl (Nat.le_of_ble_eq_true rfl) rfl (fun C h hg hl hR X => ?_)
  subst hg hl
  refine z_aload_n (pc' := 1) X dX8_markOf_0 rfl rfl ?_
  refine z_iload_n (pc' := 2) X dX8_markOf_1 rfl rfl ?_
  refine z_iconst (pc' := 3) X dX8_markOf_2 rfl ?_
  refine z_V_int2 (pc' := 6) X rfl Y_X8_ofMould q2494 dX8_markOf_3 rfl (by decide) (Nat.le_refl _) (Nat.le_refl _) (Nat.le_of_ble_eq_true rfl) (c_X8_ofMould _ _ _ _ v 0 A P Q hv (by decide) hA hk hP hQ) (fun r3 M3 hr3 hp3 hR3 => ?_)
  refine z_ireturn X dX8_markOf_6 (Nat.le_refl _) (Nat.le_refl _) (fun _ hh => ⟨_, hh, _, rfl, ?_, ?_⟩)
  · first | assumption | omega
  · rw [show (126 : Int) + 3 * v + 0 = 126 + 3 * v by omega] at hp3
    exact hp3
theorem Y_X8_wearOf : zYV yX8_wearOf cX8_wearOf 2 (some .int) 1 := ⟨⟨q2499, q2500, q132, q2501⟩, by decide +kernel, by decide⟩
set_option maxRecDepth 100000 in
theorem c_X8_wearOf (l : Launch) (g : zG) (ma : Nat → Nat) (M : MM) (v : Int) (A : Ab) (P Q : Int) (hv : rng v) (hA : mRep M A) (hk : okA P Q A) (hP : P ≤ 900000) (hQ : Q ≤ 9000000) : mInt l yX8_wearOf cX8_wearOf 2 (some .int) 7 [vR (ma 0), vI v] g ma M (fun r M' => outP (gIn 0 4 v) A (A.1.1 (126 + 3 * v + 1)) A r M') := by
  refine mInt.mk (L0 := [some (vR (ma 0)), some (vI v)]) (by decide) rfl (Nat.le_of_ble_eq_true rfl) rfl (fun C h hg hl hR X => ?_)
  subst hg hl
  refine z_aload_n (pc' := 1) X dX8_wearOf_0 rfl rfl ?_
  refine z_iload_n (pc' := 2) X dX8_wearOf_1 rfl rfl ?_
  refine z_iconst (pc' := 3) X dX8_wearOf_2 rfl ?_
  refine z_V_int2 (pc' := 6) X rfl Y_X8_ofMould q2494 dX8_wearOf_3 rfl (by decide) (Nat.le_refl _) (Nat.le_refl _) (Nat.le_of_ble_eq_true rfl) (c_X8_ofMould _ _ _ _ v 1 A P Q hv (by decide) hA hk hP hQ) (fun r3 M3 hr3 hp3 hR3 => ?_)
  refine z_ireturn X dX8_wearOf_6 (Nat.le_refl _) (Nat.le_refl _) (fun _ hh => ⟨_, hh, _, rfl, ?_, ?_⟩)
  · first | assumption | omega
  · exact hp3
theorem Y_X8_whyNotBeaten : zYV yX8_whyNotBeaten cX8_whyNotBeaten 3 (some .int) 2 := ⟨⟨q2487, q2488, q132, q2489⟩, by decide +kernel, by decide⟩
set_option maxRecDepth 100000 in
theorem c_X8_whyNotBeaten (l : Launch) (g : zG) (ma : Nat → Nat) (M : MM) (v n : Int) (A : Ab) (P Q : Int) (hv : rng v) (hn : rng n) (hA : mRep M A) (hk : okA P Q A) (hP : P ≤ 900000) (hQ : Q ≤ 9000000) : mInt l yX8_whyNotBeaten cX8_whyNotBeaten 3 (some .int) 7 [vR (ma 0), vI v, vI n] g ma M (fun r M' => outP (gBtn v n) A (whyBS A.1 v n) A r M') := by
  refine mInt.mk (L0 := [some (vR (ma 0)), some (vI v), some (vI n)]) (by decide) rfl (Nat.le_of_ble_eq_true rfl) rfl (fun C h hg hl hR X => ?_)
  subst hg hl
  obtain ⟨hS, hN, hH, hT⟩ := id hA
  obtain ⟨hkS, -, -, -⟩ := id hk
  obtain ⟨⟨kc1, -, kc3, kc4, kc5⟩, kb, kp, kq⟩ := id hkS
  have hI := hk.I hA hP hQ
  have hn := mI_n hI
  have hh0 : 0 ≤ M 0 0 ∧ M 0 0 ≤ 5 := ⟨by rw [hH.1]; omega, by rw [hH.1]; have := hH.2.1; omega⟩
  have s0 := sc_at hA (j := 0) (by unfold scI; omega)
  have s1 := sc_at hA (j := 1) (by unfold scI; omega)
  have hA0 : mRep (mset M 0 3 0) A := hA.num (by decide)
  have hS0 := hA0.1
  have hI0 : mI (mset M 0 3 0) := hk.I hA0 hP hQ
  have q4 := hS.2.1.1
  have q5 := hS.2.2.1.1
  have q6 := hS.2.2.2.1
  have p4 := hS0.2.1.1
  have p5 := hS0.2.2.1.1
  have p6 := hS0.2.2.2.1
  refine z_aload_n (pc' := 1) X dX8_whyNotBeaten_0 rfl rfl ?_
  refine z_iload_n (pc' := 2) X dX8_whyNotBeaten_1 rfl rfl ?_
  refine z_S_fun1 (pc' := 5) X Y_X8_isVat q2210 dX8_whyNotBeaten_2 rfl (by decide) (Nat.le_refl _) (Nat.le_refl _) (Nat.le_of_ble_eq_true rfl) (fun h _ => c_X8_isVat _ _ _ _ (by first | assumption | omega)) (fun r2 hr2 hp2 => ?_)
  refine z_if_ne (tgt := 12) (pc' := 8) X (by first | assumption | omega) dX8_whyNotBeaten_5 rfl (by decide) (fun c5 => ?_) (fun c5 => ?_)
  · refine z_iload_n (pc' := 13) X dX8_whyNotBeaten_12 rfl rfl ?_
    refine z_S_fun1 (pc' := 16) X Y_X8_isPounds q2213 dX8_whyNotBeaten_13 rfl (by decide) (Nat.le_refl _) (Nat.le_refl _) (Nat.le_of_ble_eq_true rfl) (fun h _ => c_X8_isPounds _ _ _ _ (by first | assumption | omega)) (fun r13 hr13 hp13 => ?_)
    refine z_if_eq (tgt := 23) (pc' := 19) X (by first | assumption | omega) dX8_whyNotBeaten_16 rfl (by decide) (fun c16 => ?_) (fun c16 => ?_)
    · refine z_iconst (pc' := 24) X dX8_whyNotBeaten_23 rfl ?_
      refine z_mput (pc' := 27) X 10 3 rfl (by decide) q2073 rfl rfl rfl (by first | assumption | omega) dX8_whyNotBeaten_24 rfl (fun hR24 => ?_)
      refine z_aload_n (pc' := 28) X dX8_whyNotBeaten_27 rfl rfl ?_
      have hv28 := hR24 0 3
      refine z_mget (pc' := 31) X 10 rfl (by decide) q2073 rfl dX8_whyNotBeaten_28 rfl ?_
      rw [mset_s]
      rw [mset_s] at hv28
      refine z_if_le (tgt := 38) (pc' := 34) X (by first | assumption | omega) dX8_whyNotBeaten_31 rfl (by decide) (fun c31 => ?_) (fun c31 => ?_)
      · exact absurd c31 (by decide)
      · refine z_iconst (pc' := 35) X dX8_whyNotBeaten_34 rfl ?_
        refine z_goto (tgt := 44) X dX8_whyNotBeaten_35 (by decide) ?_
        refine z_ireturn X dX8_whyNotBeaten_44 (Nat.le_refl _) (Nat.le_refl _) (fun _ hh => ⟨_, hh, _, rfl, ?_, ?_⟩)
        · first | assumption | omega
        · exact ⟨by rw [mset_s]; unfold gBtn; (repeat' split) <;> omega, Or.inl ⟨by unfold gBtn; (repeat' split) <;> omega, hA.num (by decide)⟩⟩
    · refine z_iconst (pc' := 20) X dX8_whyNotBeaten_19 rfl ?_
      refine z_goto (tgt := 24) X dX8_whyNotBeaten_20 (by decide) ?_
      refine z_mput (pc' := 27) X 10 3 rfl (by decide) q2073 rfl rfl rfl (by first | assumption | omega) dX8_whyNotBeaten_24 rfl (fun hR24 => ?_)
      refine z_aload_n (pc' := 28) X dX8_whyNotBeaten_27 rfl rfl ?_
      have hv28 := hR24 0 3
      refine z_mget (pc' := 31) X 10 rfl (by decide) q2073 rfl dX8_whyNotBeaten_28 rfl ?_
      rw [mset_s]
      rw [mset_s] at hv28
      refine z_if_le (tgt := 38) (pc' := 34) X (by first | assumption | omega) dX8_whyNotBeaten_31 rfl (by decide) (fun c31 => ?_) (fun c31 => ?_)
      · refine z_aload_n (pc' := 39) X dX8_whyNotBeaten_38 rfl rfl ?_
        refine z_iload_n (pc' := 40) X dX8_whyNotBeaten_39 rfl rfl ?_
        refine z_iload_n (pc' := 41) X dX8_whyNotBeaten_40 rfl rfl ?_
        refine z_V_int2 (pc' := 44) X rfl Y_X8_whyNoBeating q2216 dX8_whyNotBeaten_41 rfl (by decide) (Nat.le_refl _) (Nat.le_refl _) (Nat.le_of_ble_eq_true rfl) (c_X8_whyNoBeating _ _ _ _ _ _ (by first | assumption | omega) (by first | assumption | omega) (by first | assumption | omega)) (fun r41 M41 hr41 hp41 hR41 => ?_)
        refine z_ireturn X dX8_whyNotBeaten_44 (Nat.le_refl _) (Nat.le_refl _) (fun _ hh => ⟨_, hh, _, rfl, ?_, ?_⟩)
        · first | assumption | omega
        · have hg0 : gBtn v n = 0 := by unfold gBtn; (repeat' split) <;> omega
          rw [hg0]
          exact ⟨by rw [hp41.2 0 (by decide)]; exact mset_s, Or.inr ⟨rfl, by rw [hp41.1]; exact mWhyB_S hS0 (by omega), hA0.row5 hp41.2⟩⟩
      · exact absurd c31 (by decide)
  · refine z_iconst (pc' := 9) X dX8_whyNotBeaten_8 rfl ?_
    refine z_goto (tgt := 24) X dX8_whyNotBeaten_9 (by decide) ?_
    refine z_mput (pc' := 27) X 10 3 rfl (by decide) q2073 rfl rfl rfl (by first | assumption | omega) dX8_whyNotBeaten_24 rfl (fun hR24 => ?_)
    refine z_aload_n (pc' := 28) X dX8_whyNotBeaten_27 rfl rfl ?_
    have hv28 := hR24 0 3
    refine z_mget (pc' := 31) X 10 rfl (by decide) q2073 rfl dX8_whyNotBeaten_28 rfl ?_
    rw [mset_s]
    rw [mset_s] at hv28
    refine z_if_le (tgt := 38) (pc' := 34) X (by first | assumption | omega) dX8_whyNotBeaten_31 rfl (by decide) (fun c31 => ?_) (fun c31 => ?_)
    · exact absurd c31 (by decide)
    · refine z_iconst (pc' := 35) X dX8_whyNotBeaten_34 rfl ?_
      refine z_goto (tgt := 44) X dX8_whyNotBeaten_35 (by decide) ?_
      refine z_ireturn X dX8_whyNotBeaten_44 (Nat.le_refl _) (Nat.le_refl _) (fun _ hh => ⟨_, hh, _, rfl, ?_, ?_⟩)
      · first | assumption | omega
      · exact ⟨by rw [mset_s]; unfold gBtn; (repeat' split) <;> omega, Or.inl ⟨by unfold gBtn; (repeat' split) <;> omega, hA.num (by decide)⟩⟩
theorem Y_X8_pointsOf : zYV yX8_pointsOf cX8_pointsOf 3 (some .int) 2 := ⟨⟨q2503, q2504, q132, q2505⟩, by decide +kernel, by decide⟩
set_option maxRecDepth 100000 in
theorem c_X8_pointsOf (l : Launch) (g : zG) (ma : Nat → Nat) (M : MM) (v m : Int) (A : Ab) (P Q : Int) (hv : rng v) (hm : rng m) (hA : mRep M A) (hk : okA P Q A) (hP : P ≤ 900000) (hQ : Q ≤ 9000000) : mInt l yX8_pointsOf cX8_pointsOf 3 (some .int) 7 [vR (ma 0), vI v, vI m] g ma M (fun r M' => outP (gPts A.1 v m) A (ptsN A.1.1 v m) A r M') := by
  refine mInt.mk (L0 := [some (vR (ma 0)), some (vI v), some (vI m)]) (by decide) rfl (Nat.le_of_ble_eq_true rfl) rfl (fun C h hg hl hR X => ?_)
  subst hg hl
  obtain ⟨hS, hN, hH, hT⟩ := id hA
  obtain ⟨hkS, -, -, -⟩ := id hk
  obtain ⟨⟨kc1, -, kc3, kc4, kc5⟩, kb, kp, kq⟩ := id hkS
  have hI := hk.I hA hP hQ
  have hn := mI_n hI
  have hh0 : 0 ≤ M 0 0 ∧ M 0 0 ≤ 5 := ⟨by rw [hH.1]; omega, by rw [hH.1]; have := hH.2.1; omega⟩
  have s0 := sc_at hA (j := 0) (by unfold scI; omega)
  have s1 := sc_at hA (j := 1) (by unfold scI; omega)
  have hA0 : mRep (mset M 0 3 0) A := hA.num (by decide)
  have hS0 := hA0.1
  have hI0 : mI (mset M 0 3 0) := hk.I hA0 hP hQ
  have q4 := hS.2.1.1
  have q5 := hS.2.2.1.1
  have q6 := hS.2.2.2.1
  have p4 := hS0.2.1.1
  have p5 := hS0.2.2.1.1
  have p6 := hS0.2.2.2.1
  refine z_aload_n (pc' := 1) X dX8_pointsOf_0 rfl rfl ?_
  refine z_iload_n (pc' := 2) X dX8_pointsOf_1 rfl rfl ?_
  refine z_S_fun1 (pc' := 5) X Y_X8_isVat q2210 dX8_pointsOf_2 rfl (by decide) (Nat.le_refl _) (Nat.le_refl _) (Nat.le_of_ble_eq_true rfl) (fun h _ => c_X8_isVat _ _ _ _ (by first | assumption | omega)) (fun r2 hr2 hp2 => ?_)
  refine z_if_eq (tgt := 15) (pc' := 8) X (by first | assumption | omega) dX8_pointsOf_5 rfl (by decide) (fun c5 => ?_) (fun c5 => ?_)
  · refine z_iconst (pc' := 16) X dX8_pointsOf_15 rfl ?_
    refine z_goto (tgt := 32) X dX8_pointsOf_16 (by decide) ?_
    refine z_mput (pc' := 35) X 10 3 rfl (by decide) q2073 rfl rfl rfl (by first | assumption | omega) dX8_pointsOf_32 rfl (fun hR32 => ?_)
    refine z_aload_n (pc' := 36) X dX8_pointsOf_35 rfl rfl ?_
    have hv36 := hR32 0 3
    refine z_mget (pc' := 39) X 10 rfl (by decide) q2073 rfl dX8_pointsOf_36 rfl ?_
    rw [mset_s]
    rw [mset_s] at hv36
    refine z_if_le (tgt := 46) (pc' := 42) X (by first | assumption | omega) dX8_pointsOf_39 rfl (by decide) (fun c39 => ?_) (fun c39 => ?_)
    · exact absurd c39 (by decide)
    · refine z_iconst (pc' := 43) X dX8_pointsOf_42 rfl ?_
      refine z_goto (tgt := 52) X dX8_pointsOf_43 (by decide) ?_
      refine z_ireturn X dX8_pointsOf_52 (Nat.le_refl _) (Nat.le_refl _) (fun _ hh => ⟨_, hh, _, rfl, ?_, ?_⟩)
      · first | assumption | omega
      · exact ⟨by rw [mset_s]; unfold gPts; (repeat' split) <;> omega, Or.inl ⟨by unfold gPts; (repeat' split) <;> omega, hA.num (by decide)⟩⟩
  · refine z_iload_n (pc' := 9) X dX8_pointsOf_8 rfl rfl ?_
    refine z_S_fun1 (pc' := 12) X Y_X8_isMould q2270 dX8_pointsOf_9 rfl (by decide) (Nat.le_refl _) (Nat.le_refl _) (Nat.le_of_ble_eq_true rfl) (fun h _ => c_X8_isMould _ _ _ _ (by first | assumption | omega)) (fun r9 hr9 hp9 => ?_)
    refine z_if_ne (tgt := 19) (pc' := 15) X (by first | assumption | omega) dX8_pointsOf_12 rfl (by decide) (fun c12 => ?_) (fun c12 => ?_)
    · refine z_aload_n (pc' := 20) X dX8_pointsOf_19 rfl rfl ?_
      refine z_iload_n (pc' := 21) X dX8_pointsOf_20 rfl rfl ?_
      refine z_V_fun1 (pc' := 24) X rfl Y_X8_units q2220 dX8_pointsOf_21 rfl (by decide) (Nat.le_refl _) (Nat.le_refl _) (Nat.le_of_ble_eq_true rfl) (c_X8_units _ _ _ _ _ (by first | assumption | omega)) (fun r21 hr21 hp21 => ?_)
      subst hp21
      have e21 := mU_S hS (v := v) (by omega)
      refine z_if_ne (tgt := 31) (pc' := 27) X (by first | assumption | omega) dX8_pointsOf_24 rfl (by decide) (fun c24 => ?_) (fun c24 => ?_)
      · refine z_iconst (pc' := 32) X dX8_pointsOf_31 rfl ?_
        refine z_mput (pc' := 35) X 10 3 rfl (by decide) q2073 rfl rfl rfl (by first | assumption | omega) dX8_pointsOf_32 rfl (fun hR32 => ?_)
        refine z_aload_n (pc' := 36) X dX8_pointsOf_35 rfl rfl ?_
        have hv36 := hR32 0 3
        refine z_mget (pc' := 39) X 10 rfl (by decide) q2073 rfl dX8_pointsOf_36 rfl ?_
        rw [mset_s]
        rw [mset_s] at hv36
        refine z_if_le (tgt := 46) (pc' := 42) X (by first | assumption | omega) dX8_pointsOf_39 rfl (by decide) (fun c39 => ?_) (fun c39 => ?_)
        · refine z_aload_n (pc' := 47) X dX8_pointsOf_46 rfl rfl ?_
          refine z_iload_n (pc' := 48) X dX8_pointsOf_47 rfl rfl ?_
          refine z_iload_n (pc' := 49) X dX8_pointsOf_48 rfl rfl ?_
          refine z_V_fun2 (pc' := 52) X rfl Y_X8_points q2299 dX8_pointsOf_49 rfl (by decide) (Nat.le_refl _) (Nat.le_refl _) (Nat.le_of_ble_eq_true rfl) (c_X8_points _ _ _ _ _ _ (by first | assumption | omega) (by first | assumption | omega) (by first | assumption | omega)) (fun r49 hr49 hp49 => ?_)
          subst hp49
          refine z_ireturn X dX8_pointsOf_52 (Nat.le_refl _) (Nat.le_refl _) (fun _ hh => ⟨_, hh, _, rfl, ?_, ?_⟩)
          · first | assumption | omega
          · have hg0 : gPts A.1 v m = 0 := by unfold gPts; (repeat' split) <;> omega
            rw [hg0]
            exact ⟨mset_s, Or.inr ⟨rfl, (mk_eq (n := 0) hS0 (by omega) (by omega)).1.symm, hA0⟩⟩
        · exact absurd c39 (by decide)
      · refine z_iconst (pc' := 28) X dX8_pointsOf_27 rfl ?_
        refine z_goto (tgt := 32) X dX8_pointsOf_28 (by decide) ?_
        refine z_mput (pc' := 35) X 10 3 rfl (by decide) q2073 rfl rfl rfl (by first | assumption | omega) dX8_pointsOf_32 rfl (fun hR32 => ?_)
        refine z_aload_n (pc' := 36) X dX8_pointsOf_35 rfl rfl ?_
        have hv36 := hR32 0 3
        refine z_mget (pc' := 39) X 10 rfl (by decide) q2073 rfl dX8_pointsOf_36 rfl ?_
        rw [mset_s]
        rw [mset_s] at hv36
        refine z_if_le (tgt := 46) (pc' := 42) X (by first | assumption | omega) dX8_pointsOf_39 rfl (by decide) (fun c39 => ?_) (fun c39 => ?_)
        · exact absurd c39 (by decide)
        · refine z_iconst (pc' := 43) X dX8_pointsOf_42 rfl ?_
          refine z_goto (tgt := 52) X dX8_pointsOf_43 (by decide) ?_
          refine z_ireturn X dX8_pointsOf_52 (Nat.le_refl _) (Nat.le_refl _) (fun _ hh => ⟨_, hh, _, rfl, ?_, ?_⟩)
          · first | assumption | omega
          · exact ⟨by rw [mset_s]; unfold gPts; (repeat' split) <;> omega, Or.inl ⟨by unfold gPts; (repeat' split) <;> omega, hA.num (by decide)⟩⟩
    · refine z_iconst (pc' := 16) X dX8_pointsOf_15 rfl ?_
      refine z_goto (tgt := 32) X dX8_pointsOf_16 (by decide) ?_
      refine z_mput (pc' := 35) X 10 3 rfl (by decide) q2073 rfl rfl rfl (by first | assumption | omega) dX8_pointsOf_32 rfl (fun hR32 => ?_)
      refine z_aload_n (pc' := 36) X dX8_pointsOf_35 rfl rfl ?_
      have hv36 := hR32 0 3
      refine z_mget (pc' := 39) X 10 rfl (by decide) q2073 rfl dX8_pointsOf_36 rfl ?_
      rw [mset_s]
      rw [mset_s] at hv36
      refine z_if_le (tgt := 46) (pc' := 42) X (by first | assumption | omega) dX8_pointsOf_39 rfl (by decide) (fun c39 => ?_) (fun c39 => ?_)
      · exact absurd c39 (by decide)
      · refine z_iconst (pc' := 43) X dX8_pointsOf_42 rfl ?_
        refine z_goto (tgt := 52) X dX8_pointsOf_43 (by decide) ?_
        refine z_ireturn X dX8_pointsOf_52 (Nat.le_refl _) (Nat.le_refl _) (fun _ hh => ⟨_, hh, _, rfl, ?_, ?_⟩)
        · first | assumption | omega
        · exact ⟨by rw [mset_s]; unfold gPts; (repeat' split) <;> omega, Or.inl ⟨by unfold gPts; (repeat' split) <;> omega, hA.num (by decide)⟩⟩
theorem Y_X8_whyNotMade : zYV yX8_whyNotMade cX8_whyNotMade 4 (some .int) 3 := ⟨⟨q2507, q2508, q132, q2509⟩, by decide +kernel, by decide⟩
set_option maxRecDepth 100000 in
theorem c_X8_whyNotMade (l : Launch) (g : zG) (ma : Nat → Nat) (M : MM) (v m n : Int) (A : Ab) (P Q : Int) (hv : rng v) (hm : rng m) (hn : rng n) (hA : mRep M A) (hk : okA P Q A) (hP : P ≤ 900000) (hQ : Q ≤ 9000000) : mInt l yX8_whyNotMade cX8_whyNotMade 4 (some .int) 7 [vR (ma 0), vI v, vI m, vI n] g ma M (fun r M' => outP (gMde v m n) A (whySS A.1 v m n) A r M') := by
  refine mInt.mk (L0 := [some (vR (ma 0)), some (vI v), some (vI m), some (vI n)]) (by decide) rfl (Nat.le_of_ble_eq_true rfl) rfl (fun C h hg hl hR X => ?_)
  subst hg hl
  obtain ⟨hS, hN, hH, hT⟩ := id hA
  obtain ⟨hkS, -, -, -⟩ := id hk
  obtain ⟨⟨kc1, -, kc3, kc4, kc5⟩, kb, kp, kq⟩ := id hkS
  have hI := hk.I hA hP hQ
  have hn := mI_n hI
  have hh0 : 0 ≤ M 0 0 ∧ M 0 0 ≤ 5 := ⟨by rw [hH.1]; omega, by rw [hH.1]; have := hH.2.1; omega⟩
  have s0 := sc_at hA (j := 0) (by unfold scI; omega)
  have s1 := sc_at hA (j := 1) (by unfold scI; omega)
  have hA0 : mRep (mset M 0 3 0) A := hA.num (by decide)
  have hS0 := hA0.1
  have hI0 : mI (mset M 0 3 0) := hk.I hA0 hP hQ
  have q4 := hS.2.1.1
  have q5 := hS.2.2.1.1
  have q6 := hS.2.2.2.1
  have p4 := hS0.2.1.1
  have p5 := hS0.2.2.1.1
  have p6 := hS0.2.2.2.1
  refine z_aload_n (pc' := 1) X dX8_whyNotMade_0 rfl rfl ?_
  refine z_iload_n (pc' := 2) X dX8_whyNotMade_1 rfl rfl ?_
  refine z_S_fun1 (pc' := 5) X Y_X8_isVat q2210 dX8_whyNotMade_2 rfl (by decide) (Nat.le_refl _) (Nat.le_refl _) (Nat.le_of_ble_eq_true rfl) (fun h _ => c_X8_isVat _ _ _ _ (by first | assumption | omega)) (fun r2 hr2 hp2 => ?_)
  refine z_if_eq (tgt := 15) (pc' := 8) X (by first | assumption | omega) dX8_whyNotMade_5 rfl (by decide) (fun c5 => ?_) (fun c5 => ?_)
  · refine z_iconst (pc' := 16) X dX8_whyNotMade_15 rfl ?_
    refine z_goto (tgt := 31) X dX8_whyNotMade_16 (by decide) ?_
    refine z_mput (pc' := 34) X 10 3 rfl (by decide) q2073 rfl rfl rfl (by first | assumption | omega) dX8_whyNotMade_31 rfl (fun hR31 => ?_)
    refine z_aload_n (pc' := 35) X dX8_whyNotMade_34 rfl rfl ?_
    have hv35 := hR31 0 3
    refine z_mget (pc' := 38) X 10 rfl (by decide) q2073 rfl dX8_whyNotMade_35 rfl ?_
    rw [mset_s]
    rw [mset_s] at hv35
    refine z_if_le (tgt := 45) (pc' := 41) X (by first | assumption | omega) dX8_whyNotMade_38 rfl (by decide) (fun c38 => ?_) (fun c38 => ?_)
    · exact absurd c38 (by decide)
    · refine z_iconst (pc' := 42) X dX8_whyNotMade_41 rfl ?_
      refine z_goto (tgt := 52) X dX8_whyNotMade_42 (by decide) ?_
      refine z_ireturn X dX8_whyNotMade_52 (Nat.le_refl _) (Nat.le_refl _) (fun _ hh => ⟨_, hh, _, rfl, ?_, ?_⟩)
      · first | assumption | omega
      · exact ⟨by rw [mset_s]; unfold gMde; (repeat' split) <;> omega, Or.inl ⟨by unfold gMde; (repeat' split) <;> omega, hA.num (by decide)⟩⟩
  · refine z_iload_n (pc' := 9) X dX8_whyNotMade_8 rfl rfl ?_
    refine z_S_fun1 (pc' := 12) X Y_X8_isMould q2270 dX8_whyNotMade_9 rfl (by decide) (Nat.le_refl _) (Nat.le_refl _) (Nat.le_of_ble_eq_true rfl) (fun h _ => c_X8_isMould _ _ _ _ (by first | assumption | omega)) (fun r9 hr9 hp9 => ?_)
    refine z_if_ne (tgt := 19) (pc' := 15) X (by first | assumption | omega) dX8_whyNotMade_12 rfl (by decide) (fun c12 => ?_) (fun c12 => ?_)
    · refine z_iload_n (pc' := 20) X dX8_whyNotMade_19 rfl rfl ?_
      refine z_S_fun1 (pc' := 23) X Y_X8_isSheets q2289 dX8_whyNotMade_20 rfl (by decide) (Nat.le_refl _) (Nat.le_refl _) (Nat.le_of_ble_eq_true rfl) (fun h _ => c_X8_isSheets _ _ _ _ (by first | assumption | omega)) (fun r20 hr20 hp20 => ?_)
      refine z_if_eq (tgt := 30) (pc' := 26) X (by first | assumption | omega) dX8_whyNotMade_23 rfl (by decide) (fun c23 => ?_) (fun c23 => ?_)
      · refine z_iconst (pc' := 31) X dX8_whyNotMade_30 rfl ?_
        refine z_mput (pc' := 34) X 10 3 rfl (by decide) q2073 rfl rfl rfl (by first | assumption | omega) dX8_whyNotMade_31 rfl (fun hR31 => ?_)
        refine z_aload_n (pc' := 35) X dX8_whyNotMade_34 rfl rfl ?_
        have hv35 := hR31 0 3
        refine z_mget (pc' := 38) X 10 rfl (by decide) q2073 rfl dX8_whyNotMade_35 rfl ?_
        rw [mset_s]
        rw [mset_s] at hv35
        refine z_if_le (tgt := 45) (pc' := 41) X (by first | assumption | omega) dX8_whyNotMade_38 rfl (by decide) (fun c38 => ?_) (fun c38 => ?_)
        · exact absurd c38 (by decide)
        · refine z_iconst (pc' := 42) X dX8_whyNotMade_41 rfl ?_
          refine z_goto (tgt := 52) X dX8_whyNotMade_42 (by decide) ?_
          refine z_ireturn X dX8_whyNotMade_52 (Nat.le_refl _) (Nat.le_refl _) (fun _ hh => ⟨_, hh, _, rfl, ?_, ?_⟩)
          · first | assumption | omega
          · exact ⟨by rw [mset_s]; unfold gMde; (repeat' split) <;> omega, Or.inl ⟨by unfold gMde; (repeat' split) <;> omega, hA.num (by decide)⟩⟩
      · refine z_iconst (pc' := 27) X dX8_whyNotMade_26 rfl ?_
        refine z_goto (tgt := 31) X dX8_whyNotMade_27 (by decide) ?_
        refine z_mput (pc' := 34) X 10 3 rfl (by decide) q2073 rfl rfl rfl (by first | assumption | omega) dX8_whyNotMade_31 rfl (fun hR31 => ?_)
        refine z_aload_n (pc' := 35) X dX8_whyNotMade_34 rfl rfl ?_
        have hv35 := hR31 0 3
        refine z_mget (pc' := 38) X 10 rfl (by decide) q2073 rfl dX8_whyNotMade_35 rfl ?_
        rw [mset_s]
        rw [mset_s] at hv35
        refine z_if_le (tgt := 45) (pc' := 41) X (by first | assumption | omega) dX8_whyNotMade_38 rfl (by decide) (fun c38 => ?_) (fun c38 => ?_)
        · refine z_aload_n (pc' := 46) X dX8_whyNotMade_45 rfl rfl ?_
          refine z_iload_n (pc' := 47) X dX8_whyNotMade_46 rfl rfl ?_
          refine z_iload_n (pc' := 48) X dX8_whyNotMade_47 rfl rfl ?_
          refine z_iload_n (pc' := 49) X dX8_whyNotMade_48 rfl rfl ?_
          refine z_V_fun3 (pc' := 52) X rfl Y_X8_whyNoSheets q2292 dX8_whyNotMade_49 rfl (by decide) (Nat.le_refl _) (Nat.le_refl _) (Nat.le_of_ble_eq_true rfl) (c_X8_whyNoSheets _ _ _ _ _ _ _ (by first | assumption | omega) (by first | assumption | omega) (by first | assumption | omega) (by first | assumption | omega)) (fun r49 hr49 hp49 => ?_)
          subst hp49
          refine z_ireturn X dX8_whyNotMade_52 (Nat.le_refl _) (Nat.le_refl _) (fun _ hh => ⟨_, hh, _, rfl, ?_, ?_⟩)
          · first | assumption | omega
          · have hg0 : gMde v m n = 0 := by unfold gMde; (repeat' split) <;> omega
            rw [hg0]
            exact ⟨mset_s, Or.inr ⟨rfl, mWhyS_S hS0 (by omega) (by omega), hA0⟩⟩
        · exact absurd c38 (by decide)
    · refine z_iconst (pc' := 16) X dX8_whyNotMade_15 rfl ?_
      refine z_goto (tgt := 31) X dX8_whyNotMade_16 (by decide) ?_
      refine z_mput (pc' := 34) X 10 3 rfl (by decide) q2073 rfl rfl rfl (by first | assumption | omega) dX8_whyNotMade_31 rfl (fun hR31 => ?_)
      refine z_aload_n (pc' := 35) X dX8_whyNotMade_34 rfl rfl ?_
      have hv35 := hR31 0 3
      refine z_mget (pc' := 38) X 10 rfl (by decide) q2073 rfl dX8_whyNotMade_35 rfl ?_
      rw [mset_s]
      rw [mset_s] at hv35
      refine z_if_le (tgt := 45) (pc' := 41) X (by first | assumption | omega) dX8_whyNotMade_38 rfl (by decide) (fun c38 => ?_) (fun c38 => ?_)
      · exact absurd c38 (by decide)
      · refine z_iconst (pc' := 42) X dX8_whyNotMade_41 rfl ?_
        refine z_goto (tgt := 52) X dX8_whyNotMade_42 (by decide) ?_
        refine z_ireturn X dX8_whyNotMade_52 (Nat.le_refl _) (Nat.le_refl _) (fun _ hh => ⟨_, hh, _, rfl, ?_, ?_⟩)
        · first | assumption | omega
        · exact ⟨by rw [mset_s]; unfold gMde; (repeat' split) <;> omega, Or.inl ⟨by unfold gMde; (repeat' split) <;> omega, hA.num (by decide)⟩⟩
theorem Y_X8_most : zYV yX8_most cX8_most 4 (some .int) 2 := ⟨⟨q2516, qs94, q132, q2517⟩, by decide +kernel, by decide⟩
set_option maxRecDepth 100000 in
theorem c_X8_most (l : Launch) (g : zG) (ma : Nat → Nat) (M : MM) (v m : Int) (S : St) (hv : 0 ≤ v ∧ v < 3) (hm : 0 ≤ m ∧ m < 5) (hI : mI M) (hS : sRep (M 1) S) : mFun l yX8_most cX8_most 4 (some .int) 6 [vR (ma 0), vI v, vI m] g ma M (fun r => r = mostN S v m 480) := by
  refine mFun.mk (L0 := [some (vR (ma 0)), some (vI v), some (vI m), none]) (by decide) rfl (Nat.le_of_ble_eq_true rfl) rfl (fun C h hg hl hR X => ?_)
  subst hg hl
  refine z_sipush (pc' := 3) X dX8_most_0 rfl (by decide) ?_
  refine z_istore_n (pc' := 4) X dX8_most_3 rfl (by decide) rfl ?_
  dsimp only [List.set]
  have loop4 : ∀ (N : Nat) (n : Int), (0 ≤ n ∧ n ≤ 480) → (mostN S v m n.toNat = mostN S v m 480) → n.toNat < N → ZP C 4 (mF ma h (M)) 0 0 [some (vR (ma 0)), some (vI v), some (vI m), some (vI n)] 4 [] := by
    intro N
    induction N with
    | zero => intro n hn he hN; exact absurd hN (Nat.not_lt_zero _)
    | succ N ih4 =>
      intro n hn he hN
      refine ZP.fact (P := mR (M)) (fun _ h => h.1.2.2.2) (fun hR4 => ?_)
      refine z_iload_n (pc' := 5) X dX8_most_4 rfl rfl ?_
      refine z_if_le (tgt := 24) (pc' := 8) X (by first | assumption | omega) dX8_most_5 rfl (by decide) (fun c5 => ?_) (fun c5 => ?_)
      · refine z_iload_n (pc' := 25) X dX8_most_24 rfl rfl ?_
        refine z_ireturn X dX8_most_25 (Nat.le_refl _) (Nat.le_refl _) (fun _ hh => ⟨hh, _, rfl, ?_, ?_⟩)
        · first | assumption | omega
        · first
            | (rw [← he, mostN_s (by omega), if_neg (by omega)])
            | (rw [← he, show n = 0 by omega]; rfl)
      · refine z_aload_n (pc' := 9) X dX8_most_8 rfl rfl ?_
        refine z_iload_n (pc' := 10) X dX8_most_9 rfl rfl ?_
        refine z_iload_n (pc' := 11) X dX8_most_10 rfl rfl ?_
        refine z_iload_n (pc' := 12) X dX8_most_11 rfl rfl ?_
        refine z_V_fun3 (pc' := 15) X rfl Y_X8_whyNoSheets q2292 dX8_most_12 rfl (by decide) (Nat.le_refl _) (Nat.le_refl _) (Nat.le_of_ble_eq_true rfl) (c_X8_whyNoSheets _ _ _ _ _ _ _ (by first | assumption | omega) (by first | assumption | omega) (by first | assumption | omega) (by first | assumption | omega)) (fun r12 hr12 hp12 => ?_)
        subst hp12
        rw [mWhyS_S hS (by omega) (by omega)]
        rw [mWhyS_S hS (by omega) (by omega)] at hr12
        refine z_if_le (tgt := 24) (pc' := 18) X (by first | assumption | omega) dX8_most_15 rfl (by decide) (fun c15 => ?_) (fun c15 => ?_)
        · refine z_iload_n (pc' := 25) X dX8_most_24 rfl rfl ?_
          refine z_ireturn X dX8_most_25 (Nat.le_refl _) (Nat.le_refl _) (fun _ hh => ⟨hh, _, rfl, ?_, ?_⟩)
          · first | assumption | omega
          · first
              | (rw [← he, mostN_s (by omega), if_neg (by omega)])
              | (rw [← he, show n = 0 by omega]; rfl)
        · refine z_iinc (pc' := 21) X dX8_most_18 rfl (by decide) rfl rfl ?_
          dsimp only [List.set]
          refine z_goto (tgt := 4) X dX8_most_21 (by decide) ?_
          have eb := mostN_s (S := S) (v := v) (m := m) (n := n) (by omega)
          rw [if_pos (by omega)] at eb
          refine ZP.wk (L' := [some (vR (ma 0)), some (vI v), some (vI m), some (vI _)]) (And.intro rfl (And.intro rfl (And.intro rfl (And.intro rfl (trivial))))) ?_
          exact ih4 _ (by omega) (by exact eb.symm.trans he) (by omega)
  refine ZP.wk (L' := [some (vR (ma 0)), some (vI v), some (vI m), some (vI _)]) (And.intro rfl (And.intro rfl (And.intro rfl (And.intro rfl (trivial))))) ?_
  exact loop4 _ 480 (by decide) (by rfl) (Nat.lt_succ_self _)
theorem Y_X8_sheetsFrom : zYV yX8_sheetsFrom cX8_sheetsFrom 3 (some .int) 2 := ⟨⟨q2511, q2512, q132, q2513⟩, by decide +kernel, by decide⟩
set_option maxRecDepth 100000 in
theorem c_X8_sheetsFrom (l : Launch) (g : zG) (ma : Nat → Nat) (M : MM) (v m : Int) (A : Ab) (P Q : Int) (hv : rng v) (hm : rng m) (hA : mRep M A) (hk : okA P Q A) (hP : P ≤ 900000) (hQ : Q ≤ 9000000) : mInt l yX8_sheetsFrom cX8_sheetsFrom 3 (some .int) 7 [vR (ma 0), vI v, vI m] g ma M (fun r M' => outP (gVM v m) A (mostN A.1 v m 480) A r M') := by
  refine mInt.mk (L0 := [some (vR (ma 0)), some (vI v), some (vI m)]) (by decide) rfl (Nat.le_of_ble_eq_true rfl) rfl (fun C h hg hl hR X => ?_)
  subst hg hl
  obtain ⟨hS, hN, hH, hT⟩ := id hA
  obtain ⟨hkS, -, -, -⟩ := id hk
  obtain ⟨⟨kc1, -, kc3, kc4, kc5⟩, kb, kp, kq⟩ := id hkS
  have hI := hk.I hA hP hQ
  have hn := mI_n hI
  have hh0 : 0 ≤ M 0 0 ∧ M 0 0 ≤ 5 := ⟨by rw [hH.1]; omega, by rw [hH.1]; have := hH.2.1; omega⟩
  have s0 := sc_at hA (j := 0) (by unfold scI; omega)
  have s1 := sc_at hA (j := 1) (by unfold scI; omega)
  have hA0 : mRep (mset M 0 3 0) A := hA.num (by decide)
  have hS0 := hA0.1
  have hI0 : mI (mset M 0 3 0) := hk.I hA0 hP hQ
  have q4 := hS.2.1.1
  have q5 := hS.2.2.1.1
  have q6 := hS.2.2.2.1
  have p4 := hS0.2.1.1
  have p5 := hS0.2.2.1.1
  have p6 := hS0.2.2.2.1
  refine z_aload_n (pc' := 1) X dX8_sheetsFrom_0 rfl rfl ?_
  refine z_iload_n (pc' := 2) X dX8_sheetsFrom_1 rfl rfl ?_
  refine z_S_fun1 (pc' := 5) X Y_X8_isVat q2210 dX8_sheetsFrom_2 rfl (by decide) (Nat.le_refl _) (Nat.le_refl _) (Nat.le_of_ble_eq_true rfl) (fun h _ => c_X8_isVat _ _ _ _ (by first | assumption | omega)) (fun r2 hr2 hp2 => ?_)
  refine z_if_eq (tgt := 19) (pc' := 8) X (by first | assumption | omega) dX8_sheetsFrom_5 rfl (by decide) (fun c5 => ?_) (fun c5 => ?_)
  · refine z_iconst (pc' := 20) X dX8_sheetsFrom_19 rfl ?_
    refine z_mput (pc' := 23) X 10 3 rfl (by decide) q2073 rfl rfl rfl (by first | assumption | omega) dX8_sheetsFrom_20 rfl (fun hR20 => ?_)
    refine z_aload_n (pc' := 24) X dX8_sheetsFrom_23 rfl rfl ?_
    have hv24 := hR20 0 3
    refine z_mget (pc' := 27) X 10 rfl (by decide) q2073 rfl dX8_sheetsFrom_24 rfl ?_
    rw [mset_s]
    rw [mset_s] at hv24
    refine z_if_le (tgt := 34) (pc' := 30) X (by first | assumption | omega) dX8_sheetsFrom_27 rfl (by decide) (fun c27 => ?_) (fun c27 => ?_)
    · exact absurd c27 (by decide)
    · refine z_iconst (pc' := 31) X dX8_sheetsFrom_30 rfl ?_
      refine z_goto (tgt := 40) X dX8_sheetsFrom_31 (by decide) ?_
      refine z_ireturn X dX8_sheetsFrom_40 (Nat.le_refl _) (Nat.le_refl _) (fun _ hh => ⟨_, hh, _, rfl, ?_, ?_⟩)
      · first | assumption | omega
      · exact ⟨by rw [mset_s]; unfold gVM; (repeat' split) <;> omega, Or.inl ⟨by unfold gVM; (repeat' split) <;> omega, hA.num (by decide)⟩⟩
  · refine z_iload_n (pc' := 9) X dX8_sheetsFrom_8 rfl rfl ?_
    refine z_S_fun1 (pc' := 12) X Y_X8_isMould q2270 dX8_sheetsFrom_9 rfl (by decide) (Nat.le_refl _) (Nat.le_refl _) (Nat.le_of_ble_eq_true rfl) (fun h _ => c_X8_isMould _ _ _ _ (by first | assumption | omega)) (fun r9 hr9 hp9 => ?_)
    refine z_if_eq (tgt := 19) (pc' := 15) X (by first | assumption | omega) dX8_sheetsFrom_12 rfl (by decide) (fun c12 => ?_) (fun c12 => ?_)
    · refine z_iconst (pc' := 20) X dX8_sheetsFrom_19 rfl ?_
      refine z_mput (pc' := 23) X 10 3 rfl (by decide) q2073 rfl rfl rfl (by first | assumption | omega) dX8_sheetsFrom_20 rfl (fun hR20 => ?_)
      refine z_aload_n (pc' := 24) X dX8_sheetsFrom_23 rfl rfl ?_
      have hv24 := hR20 0 3
      refine z_mget (pc' := 27) X 10 rfl (by decide) q2073 rfl dX8_sheetsFrom_24 rfl ?_
      rw [mset_s]
      rw [mset_s] at hv24
      refine z_if_le (tgt := 34) (pc' := 30) X (by first | assumption | omega) dX8_sheetsFrom_27 rfl (by decide) (fun c27 => ?_) (fun c27 => ?_)
      · exact absurd c27 (by decide)
      · refine z_iconst (pc' := 31) X dX8_sheetsFrom_30 rfl ?_
        refine z_goto (tgt := 40) X dX8_sheetsFrom_31 (by decide) ?_
        refine z_ireturn X dX8_sheetsFrom_40 (Nat.le_refl _) (Nat.le_refl _) (fun _ hh => ⟨_, hh, _, rfl, ?_, ?_⟩)
        · first | assumption | omega
        · exact ⟨by rw [mset_s]; unfold gVM; (repeat' split) <;> omega, Or.inl ⟨by unfold gVM; (repeat' split) <;> omega, hA.num (by decide)⟩⟩
    · refine z_iconst (pc' := 16) X dX8_sheetsFrom_15 rfl ?_
      refine z_goto (tgt := 20) X dX8_sheetsFrom_16 (by decide) ?_
      refine z_mput (pc' := 23) X 10 3 rfl (by decide) q2073 rfl rfl rfl (by first | assumption | omega) dX8_sheetsFrom_20 rfl (fun hR20 => ?_)
      refine z_aload_n (pc' := 24) X dX8_sheetsFrom_23 rfl rfl ?_
      have hv24 := hR20 0 3
      refine z_mget (pc' := 27) X 10 rfl (by decide) q2073 rfl dX8_sheetsFrom_24 rfl ?_
      rw [mset_s]
      rw [mset_s] at hv24
      refine z_if_le (tgt := 34) (pc' := 30) X (by first | assumption | omega) dX8_sheetsFrom_27 rfl (by decide) (fun c27 => ?_) (fun c27 => ?_)
      · refine z_aload_n (pc' := 35) X dX8_sheetsFrom_34 rfl rfl ?_
        refine z_iload_n (pc' := 36) X dX8_sheetsFrom_35 rfl rfl ?_
        refine z_iload_n (pc' := 37) X dX8_sheetsFrom_36 rfl rfl ?_
        refine z_V_fun2 (pc' := 40) X rfl Y_X8_most q2514 dX8_sheetsFrom_37 rfl (by decide) (Nat.le_refl _) (Nat.le_refl _) (Nat.le_of_ble_eq_true rfl) (c_X8_most _ _ _ _ v m A.1 (by omega) (by omega) hI0 hS0) (fun r37 hr37 hp37 => ?_)
        subst hp37
        refine z_ireturn X dX8_sheetsFrom_40 (Nat.le_refl _) (Nat.le_refl _) (fun _ hh => ⟨_, hh, _, rfl, ?_, ?_⟩)
        · first | assumption | omega
        · have hg0 : gVM v m = 0 := by unfold gVM; (repeat' split) <;> omega
          rw [hg0]
          exact ⟨mset_s, Or.inr ⟨rfl, rfl, hA0⟩⟩
      · exact absurd c27 (by decide)
theorem Y_X8_sheetsByTrying : zYV yX8_sheetsByTrying cX8_sheetsByTrying 3 (some .int) 2 := ⟨⟨q2519, q2520, q132, q2521⟩, by decide +kernel, by decide⟩
set_option maxRecDepth 100000 in
theorem c_X8_sheetsByTrying (l : Launch) (g : zG) (ma : Nat → Nat) (M : MM) (v m : Int) (A : Ab) (P Q : Int) (hv : rng v) (hm : rng m) (hA : mRep M A) (hk : okA P Q A) (hP : P ≤ 900000) (hQ : Q ≤ 9000000) : mInt l yX8_sheetsByTrying cX8_sheetsByTrying 3 (some .int) 7 [vR (ma 0), vI v, vI m] g ma M (fun r M' => outP (gVM v m) A (mostN A.1 v m 480) A r M') := by
  refine mInt.mk (L0 := [some (vR (ma 0)), some (vI v), some (vI m)]) (by decide) rfl (Nat.le_of_ble_eq_true rfl) rfl (fun C h hg hl hR X => ?_)
  subst hg hl
  obtain ⟨hS, hN, hH, hT⟩ := id hA
  obtain ⟨hkS, -, -, -⟩ := id hk
  obtain ⟨⟨kc1, -, kc3, kc4, kc5⟩, kb, kp, kq⟩ := id hkS
  have hI := hk.I hA hP hQ
  have hn := mI_n hI
  have hh0 : 0 ≤ M 0 0 ∧ M 0 0 ≤ 5 := ⟨by rw [hH.1]; omega, by rw [hH.1]; have := hH.2.1; omega⟩
  have s0 := sc_at hA (j := 0) (by unfold scI; omega)
  have s1 := sc_at hA (j := 1) (by unfold scI; omega)
  have hA0 : mRep (mset M 0 3 0) A := hA.num (by decide)
  have hS0 := hA0.1
  have hI0 : mI (mset M 0 3 0) := hk.I hA0 hP hQ
  have q4 := hS.2.1.1
  have q5 := hS.2.2.1.1
  have q6 := hS.2.2.2.1
  have p4 := hS0.2.1.1
  have p5 := hS0.2.2.1.1
  have p6 := hS0.2.2.2.1
  refine z_aload_n (pc' := 1) X dX8_sheetsByTrying_0 rfl rfl ?_
  refine z_iload_n (pc' := 2) X dX8_sheetsByTrying_1 rfl rfl ?_
  refine z_S_fun1 (pc' := 5) X Y_X8_isVat q2210 dX8_sheetsByTrying_2 rfl (by decide) (Nat.le_refl _) (Nat.le_refl _) (Nat.le_of_ble_eq_true rfl) (fun h _ => c_X8_isVat _ _ _ _ (by first | assumption | omega)) (fun r2 hr2 hp2 => ?_)
  refine z_if_eq (tgt := 19) (pc' := 8) X (by first | assumption | omega) dX8_sheetsByTrying_5 rfl (by decide) (fun c5 => ?_) (fun c5 => ?_)
  · refine z_iconst (pc' := 20) X dX8_sheetsByTrying_19 rfl ?_
    refine z_mput (pc' := 23) X 10 3 rfl (by decide) q2073 rfl rfl rfl (by first | assumption | omega) dX8_sheetsByTrying_20 rfl (fun hR20 => ?_)
    refine z_aload_n (pc' := 24) X dX8_sheetsByTrying_23 rfl rfl ?_
    have hv24 := hR20 0 3
    refine z_mget (pc' := 27) X 10 rfl (by decide) q2073 rfl dX8_sheetsByTrying_24 rfl ?_
    rw [mset_s]
    rw [mset_s] at hv24
    refine z_if_le (tgt := 34) (pc' := 30) X (by first | assumption | omega) dX8_sheetsByTrying_27 rfl (by decide) (fun c27 => ?_) (fun c27 => ?_)
    · exact absurd c27 (by decide)
    · refine z_iconst (pc' := 31) X dX8_sheetsByTrying_30 rfl ?_
      refine z_goto (tgt := 40) X dX8_sheetsByTrying_31 (by decide) ?_
      refine z_ireturn X dX8_sheetsByTrying_40 (Nat.le_refl _) (Nat.le_refl _) (fun _ hh => ⟨_, hh, _, rfl, ?_, ?_⟩)
      · first | assumption | omega
      · exact ⟨by rw [mset_s]; unfold gVM; (repeat' split) <;> omega, Or.inl ⟨by unfold gVM; (repeat' split) <;> omega, hA.num (by decide)⟩⟩
  · refine z_iload_n (pc' := 9) X dX8_sheetsByTrying_8 rfl rfl ?_
    refine z_S_fun1 (pc' := 12) X Y_X8_isMould q2270 dX8_sheetsByTrying_9 rfl (by decide) (Nat.le_refl _) (Nat.le_refl _) (Nat.le_of_ble_eq_true rfl) (fun h _ => c_X8_isMould _ _ _ _ (by first | assumption | omega)) (fun r9 hr9 hp9 => ?_)
    refine z_if_eq (tgt := 19) (pc' := 15) X (by first | assumption | omega) dX8_sheetsByTrying_12 rfl (by decide) (fun c12 => ?_) (fun c12 => ?_)
    · refine z_iconst (pc' := 20) X dX8_sheetsByTrying_19 rfl ?_
      refine z_mput (pc' := 23) X 10 3 rfl (by decide) q2073 rfl rfl rfl (by first | assumption | omega) dX8_sheetsByTrying_20 rfl (fun hR20 => ?_)
      refine z_aload_n (pc' := 24) X dX8_sheetsByTrying_23 rfl rfl ?_
      have hv24 := hR20 0 3
      refine z_mget (pc' := 27) X 10 rfl (by decide) q2073 rfl dX8_sheetsByTrying_24 rfl ?_
      rw [mset_s]
      rw [mset_s] at hv24
      refine z_if_le (tgt := 34) (pc' := 30) X (by first | assumption | omega) dX8_sheetsByTrying_27 rfl (by decide) (fun c27 => ?_) (fun c27 => ?_)
      · exact absurd c27 (by decide)
      · refine z_iconst (pc' := 31) X dX8_sheetsByTrying_30 rfl ?_
        refine z_goto (tgt := 40) X dX8_sheetsByTrying_31 (by decide) ?_
        refine z_ireturn X dX8_sheetsByTrying_40 (Nat.le_refl _) (Nat.le_refl _) (fun _ hh => ⟨_, hh, _, rfl, ?_, ?_⟩)
        · first | assumption | omega
        · exact ⟨by rw [mset_s]; unfold gVM; (repeat' split) <;> omega, Or.inl ⟨by unfold gVM; (repeat' split) <;> omega, hA.num (by decide)⟩⟩
    · refine z_iconst (pc' := 16) X dX8_sheetsByTrying_15 rfl ?_
      refine z_goto (tgt := 20) X dX8_sheetsByTrying_16 (by decide) ?_
      refine z_mput (pc' := 23) X 10 3 rfl (by decide) q2073 rfl rfl rfl (by first | assumption | omega) dX8_sheetsByTrying_20 rfl (fun hR20 => ?_)
      refine z_aload_n (pc' := 24) X dX8_sheetsByTrying_23 rfl rfl ?_
      have hv24 := hR20 0 3
      refine z_mget (pc' := 27) X 10 rfl (by decide) q2073 rfl dX8_sheetsByTrying_24 rfl ?_
      rw [mset_s]
      rw [mset_s] at hv24
      refine z_if_le (tgt := 34) (pc' := 30) X (by first | assumption | omega) dX8_sheetsByTrying_27 rfl (by decide) (fun c27 => ?_) (fun c27 => ?_)
      · refine z_aload_n (pc' := 35) X dX8_sheetsByTrying_34 rfl rfl ?_
        refine z_iload_n (pc' := 36) X dX8_sheetsByTrying_35 rfl rfl ?_
        refine z_iload_n (pc' := 37) X dX8_sheetsByTrying_36 rfl rfl ?_
        refine z_V_fun2 (pc' := 40) X rfl Y_X8_most q2514 dX8_sheetsByTrying_37 rfl (by decide) (Nat.le_refl _) (Nat.le_refl _) (Nat.le_of_ble_eq_true rfl) (c_X8_most _ _ _ _ v m A.1 (by omega) (by omega) hI0 hS0) (fun r37 hr37 hp37 => ?_)
        subst hp37
        refine z_ireturn X dX8_sheetsByTrying_40 (Nat.le_refl _) (Nat.le_refl _) (fun _ hh => ⟨_, hh, _, rfl, ?_, ?_⟩)
        · first | assumption | omega
        · have hg0 : gVM v m = 0 := by unfold gVM; (repeat' split) <;> omega
          rw [hg0]
          exact ⟨mset_s, Or.inr ⟨rfl, rfl, hA0⟩⟩
      · exact absurd c27 (by decide)
theorem Y_X8_ofPile : zYV yX8_ofPile cX8_ofPile 3 (some .int) 2 := ⟨⟨q2532, qs95, q132, q2533⟩, by decide +kernel, by decide⟩
set_option maxRecDepth 100000 in
theorem c_X8_ofPile (l : Launch) (g : zG) (ma : Nat → Nat) (M : MM) (p w : Int) (A : Ab) (P Q : Int) (hp : rng p) (hw : 0 ≤ w ∧ w < 5) (hA : mRep M A) (hk : okA P Q A) (hP : P ≤ 900000) (hQ : Q ≤ 9000000) : mInt l yX8_ofPile cX8_ofPile 3 (some .int) 6 [vR (ma 0), vI p, vI w] g ma M (fun r M' => outP (gAt A.1.2.2.1.length p) A (pAt (atP A.1.2.2.1 p) w) A r M') := by
  refine mInt.mk (L0 := [some (vR (ma 0)), some (vI p), some (vI w)]) (by decide) rfl (Nat.le_of_ble_eq_true rfl) rfl (fun C h hg hl hR X => ?_)
  subst hg hl
  obtain ⟨hS, hN, hH, hT⟩ := id hA
  obtain ⟨hkS, -, -, -⟩ := id hk
  obtain ⟨⟨kc1, -, kc3, kc4, kc5⟩, kb, kp, kq⟩ := id hkS
  have hI := hk.I hA hP hQ
  have hn := mI_n hI
  have hh0 : 0 ≤ M 0 0 ∧ M 0 0 ≤ 5 := ⟨by rw [hH.1]; omega, by rw [hH.1]; have := hH.2.1; omega⟩
  have s0 := sc_at hA (j := 0) (by unfold scI; omega)
  have s1 := sc_at hA (j := 1) (by unfold scI; omega)
  have hA0 : mRep (mset M 0 3 0) A := hA.num (by decide)
  have hS0 := hA0.1
  have hI0 : mI (mset M 0 3 0) := hk.I hA0 hP hQ
  have q4 := hS.2.1.1
  have q5 := hS.2.2.1.1
  have q6 := hS.2.2.2.1
  have p4 := hS0.2.1.1
  have p5 := hS0.2.2.1.1
  have p6 := hS0.2.2.2.1
  refine z_aload_n (pc' := 1) X dX8_ofPile_0 rfl rfl ?_
  refine z_iload_n (pc' := 2) X dX8_ofPile_1 rfl rfl ?_
  refine z_iconst (pc' := 3) X dX8_ofPile_2 rfl ?_
  refine z_aload_n (pc' := 4) X dX8_ofPile_3 rfl rfl ?_
  refine z_mget (pc' := 7) X 0 rfl (by decide) q2063 rfl dX8_ofPile_4 rfl ?_
  refine z_iconst (pc' := 8) X dX8_ofPile_7 rfl ?_
  refine z_mld (pc' := 9) X (r := 1) (by decide) (show 0 ≤ _ ∧ _ < (321 : Int) by omega) dX8_ofPile_8 rfl (fun hv8 => ?_)
  refine z_iconst (pc' := 10) X dX8_ofPile_9 rfl ?_
  refine z_isub (pc' := 11) X dX8_ofPile_10 rfl ?_
  refine z_S_fun3 (pc' := 14) X Y_X8_in q2123 dX8_ofPile_11 rfl (by decide) (Nat.le_refl _) (Nat.le_refl _) (Nat.le_of_ble_eq_true rfl) (fun h _ => c_X8_in _ _ _ _ _ _ (by first | assumption | omega) (by first | assumption | omega) (by first | assumption | omega)) (fun r11 hr11 hp11 => ?_)
  refine z_if_eq (tgt := 21) (pc' := 17) X (by first | assumption | omega) dX8_ofPile_14 rfl (by decide) (fun c14 => ?_) (fun c14 => ?_)
  · refine z_iconst (pc' := 22) X dX8_ofPile_21 rfl ?_
    refine z_mput (pc' := 25) X 10 3 rfl (by decide) q2073 rfl rfl rfl (by first | assumption | omega) dX8_ofPile_22 rfl (fun hR22 => ?_)
    refine z_aload_n (pc' := 26) X dX8_ofPile_25 rfl rfl ?_
    have hv26 := hR22 0 3
    refine z_mget (pc' := 29) X 10 rfl (by decide) q2073 rfl dX8_ofPile_26 rfl ?_
    rw [mset_s]
    rw [mset_s] at hv26
    refine z_if_le (tgt := 36) (pc' := 32) X (by first | assumption | omega) dX8_ofPile_29 rfl (by decide) (fun c29 => ?_) (fun c29 => ?_)
    · exact absurd c29 (by decide)
    · refine z_iconst (pc' := 33) X dX8_ofPile_32 rfl ?_
      refine z_goto (tgt := 42) X dX8_ofPile_33 (by decide) ?_
      refine z_ireturn X dX8_ofPile_42 (Nat.le_refl _) (Nat.le_refl _) (fun _ hh => ⟨_, hh, _, rfl, ?_, ?_⟩)
      · first | assumption | omega
      · exact ⟨by rw [mset_s]; unfold gAt; (repeat' split) <;> omega, Or.inl ⟨by unfold gAt; (repeat' split) <;> omega, hA.num (by decide)⟩⟩
  · refine z_iconst (pc' := 18) X dX8_ofPile_17 rfl ?_
    refine z_goto (tgt := 22) X dX8_ofPile_18 (by decide) ?_
    refine z_mput (pc' := 25) X 10 3 rfl (by decide) q2073 rfl rfl rfl (by first | assumption | omega) dX8_ofPile_22 rfl (fun hR22 => ?_)
    refine z_aload_n (pc' := 26) X dX8_ofPile_25 rfl rfl ?_
    have hv26 := hR22 0 3
    refine z_mget (pc' := 29) X 10 rfl (by decide) q2073 rfl dX8_ofPile_26 rfl ?_
    rw [mset_s]
    rw [mset_s] at hv26
    refine z_if_le (tgt := 36) (pc' := 32) X (by first | assumption | omega) dX8_ofPile_29 rfl (by decide) (fun c29 => ?_) (fun c29 => ?_)
    · refine z_aload_n (pc' := 37) X dX8_ofPile_36 rfl rfl ?_
      refine z_iload_n (pc' := 38) X dX8_ofPile_37 rfl rfl ?_
      refine z_iload_n (pc' := 39) X dX8_ofPile_38 rfl rfl ?_
      refine z_V_fun2 (pc' := 42) X rfl Y_X8_pile q2326 dX8_ofPile_39 rfl (by decide) (Nat.le_refl _) (Nat.le_refl _) (Nat.le_of_ble_eq_true rfl) (c_X8_pile _ _ _ _ _ _ (by first | assumption | omega) (by first | assumption | omega)) (fun r39 hr39 hp39 => ?_)
      subst hp39
      refine z_ireturn X dX8_ofPile_42 (Nat.le_refl _) (Nat.le_refl _) (fun _ hh => ⟨_, hh, _, rfl, ?_, ?_⟩)
      · first | assumption | omega
      · have hg0 : gAt A.1.2.2.1.length p = 0 := by unfold gAt; (repeat' split) <;> omega
        rw [hg0]
        exact ⟨mset_s, Or.inr ⟨rfl, pR_at hS0.2.2.1 (by omega) hw, hA0⟩⟩
    · exact absurd c29 (by decide)
theorem Y_X8_sheetsOn : zYV yX8_sheetsOn cX8_sheetsOn 2 (some .int) 1 := ⟨⟨q2527, q2528, q132, q2529⟩, by decide +kernel, by decide⟩
set_option maxRecDepth 100000 in
theorem c_X8_sheetsOn (l : Launch) (g : zG) (ma : Nat → Nat) (M : MM) (p : Int) (A : Ab) (P Q : Int) (hp : rng p) (hA : mRep M A) (hk : okA P Q A) (hP : P ≤ 900000) (hQ : Q ≤ 9000000) : mInt l yX8_sheetsOn cX8_sheetsOn 2 (some .int) 7 [vR (ma 0), vI p] g ma M (fun r M' => outP (gAt A.1.2.2.1.length p) A ((atP A.1.2.2.1 p).2.2.2.1) A r M') := by
  refine mInt.mk (L0 := [some (vR (ma 0)), some (vI p)]) (by decide) rfl (Nat.le_of_ble_eq_true rfl) rfl (fun C h hg hl hR X => ?_)
  subst hg hl
  refine z_aload_n (pc' := 1) X dX8_sheetsOn_0 rfl rfl ?_
  refine z_iload_n (pc' := 2) X dX8_sheetsOn_1 rfl rfl ?_
  refine z_iconst (pc' := 3) X dX8_sheetsOn_2 rfl ?_
  refine z_V_int2 (pc' := 6) X rfl Y_X8_ofPile q2530 dX8_sheetsOn_3 rfl (by decide) (Nat.le_refl _) (Nat.le_refl _) (Nat.le_of_ble_eq_true rfl) (c_X8_ofPile _ _ _ _ p 3 A P Q hp (by decide) hA hk hP hQ) (fun r3 M3 hr3 hp3 hR3 => ?_)
  refine z_ireturn X dX8_sheetsOn_6 (Nat.le_refl _) (Nat.le_refl _) (fun _ hh => ⟨_, hh, _, rfl, ?_, ?_⟩)
  · first | assumption | omega
  · exact hp3
theorem Y_X8_gradeOf : zYV yX8_gradeOf cX8_gradeOf 2 (some .int) 1 := ⟨⟨q2535, q2536, q132, q2537⟩, by decide +kernel, by decide⟩
set_option maxRecDepth 100000 in
theorem c_X8_gradeOf (l : Launch) (g : zG) (ma : Nat → Nat) (M : MM) (p : Int) (A : Ab) (P Q : Int) (hp : rng p) (hA : mRep M A) (hk : okA P Q A) (hP : P ≤ 900000) (hQ : Q ≤ 9000000) : mInt l yX8_gradeOf cX8_gradeOf 2 (some .int) 7 [vR (ma 0), vI p] g ma M (fun r M' => outP (gAt A.1.2.2.1.length p) A ((atP A.1.2.2.1 p).2.2.1) A r M') := by
  refine mInt.mk (L0 := [some (vR (ma 0)), some (vI p)]) (by decide) rfl (Nat.le_of_ble_eq_true rfl) rfl (fun C h hg hl hR X => ?_)
  subst hg hl
  refine z_aload_n (pc' := 1) X dX8_gradeOf_0 rfl rfl ?_
  refine z_iload_n (pc' := 2) X dX8_gradeOf_1 rfl rfl ?_
  refine z_iconst (pc' := 3) X dX8_gradeOf_2 rfl ?_
  refine z_V_int2 (pc' := 6) X rfl Y_X8_ofPile q2530 dX8_gradeOf_3 rfl (by decide) (Nat.le_refl _) (Nat.le_refl _) (Nat.le_of_ble_eq_true rfl) (c_X8_ofPile _ _ _ _ p 2 A P Q hp (by decide) hA hk hP hQ) (fun r3 M3 hr3 hp3 hR3 => ?_)
  refine z_ireturn X dX8_gradeOf_6 (Nat.le_refl _) (Nat.le_refl _) (fun _ hh => ⟨_, hh, _, rfl, ?_, ?_⟩)
  · first | assumption | omega
  · exact hp3
theorem Y_X8_drySheets : zYV yX8_drySheets cX8_drySheets 4 (some .int) 3 := ⟨⟨q2539, q2540, q132, q2541⟩, by decide +kernel, by decide⟩
set_option maxRecDepth 100000 in
theorem c_X8_drySheets (l : Launch) (g : zG) (ma : Nat → Nat) (M : MM) (a b c : Int) (A : Ab) (P Q : Int) (ha : rng a) (hb : rng b) (hc : rng c) (hA : mRep M A) (hk : okA P Q A) (hP : P ≤ 900000) (hQ : Q ≤ 9000000) : mInt l yX8_drySheets cX8_drySheets 4 (some .int) 7 [vR (ma 0), vI a, vI b, vI c] g ma M (fun r M' => outP (gPap a b c) A (dryL a b c A.1.2.2.1) A r M') := by
  refine mInt.mk (L0 := [some (vR (ma 0)), some (vI a), some (vI b), some (vI c)]) (by decide) rfl (Nat.le_of_ble_eq_true rfl) rfl (fun C h hg hl hR X => ?_)
  subst hg hl
  obtain ⟨hS, hN, hH, hT⟩ := id hA
  obtain ⟨hkS, -, -, -⟩ := id hk
  obtain ⟨⟨kc1, -, kc3, kc4, kc5⟩, kb, kp, kq⟩ := id hkS
  have hI := hk.I hA hP hQ
  have hn := mI_n hI
  have hh0 : 0 ≤ M 0 0 ∧ M 0 0 ≤ 5 := ⟨by rw [hH.1]; omega, by rw [hH.1]; have := hH.2.1; omega⟩
  have s0 := sc_at hA (j := 0) (by unfold scI; omega)
  have s1 := sc_at hA (j := 1) (by unfold scI; omega)
  have hA0 : mRep (mset M 0 3 0) A := hA.num (by decide)
  have hS0 := hA0.1
  have hI0 : mI (mset M 0 3 0) := hk.I hA0 hP hQ
  have q4 := hS.2.1.1
  have q5 := hS.2.2.1.1
  have q6 := hS.2.2.2.1
  have p4 := hS0.2.1.1
  have p5 := hS0.2.2.1.1
  have p6 := hS0.2.2.2.1
  refine z_aload_n (pc' := 1) X dX8_drySheets_0 rfl rfl ?_
  refine z_iload_n (pc' := 2) X dX8_drySheets_1 rfl rfl ?_
  refine z_iload_n (pc' := 3) X dX8_drySheets_2 rfl rfl ?_
  refine z_iload_n (pc' := 4) X dX8_drySheets_3 rfl rfl ?_
  refine z_S_fun3 (pc' := 7) X Y_X8_isPaper q2311 dX8_drySheets_4 rfl (by decide) (Nat.le_refl _) (Nat.le_refl _) (Nat.le_of_ble_eq_true rfl) (fun h _ => c_X8_isPaper _ _ _ _ _ _ (by first | assumption | omega) (by first | assumption | omega) (by first | assumption | omega)) (fun r4 hr4 hp4 => ?_)
  refine z_if_eq (tgt := 14) (pc' := 10) X (by first | assumption | omega) dX8_drySheets_7 rfl (by decide) (fun c7 => ?_) (fun c7 => ?_)
  · refine z_iconst (pc' := 15) X dX8_drySheets_14 rfl ?_
    refine z_mput (pc' := 18) X 10 3 rfl (by decide) q2073 rfl rfl rfl (by first | assumption | omega) dX8_drySheets_15 rfl (fun hR15 => ?_)
    refine z_aload_n (pc' := 19) X dX8_drySheets_18 rfl rfl ?_
    have hv19 := hR15 0 3
    refine z_mget (pc' := 22) X 10 rfl (by decide) q2073 rfl dX8_drySheets_19 rfl ?_
    rw [mset_s]
    rw [mset_s] at hv19
    refine z_if_le (tgt := 29) (pc' := 25) X (by first | assumption | omega) dX8_drySheets_22 rfl (by decide) (fun c22 => ?_) (fun c22 => ?_)
    · exact absurd c22 (by decide)
    · refine z_iconst (pc' := 26) X dX8_drySheets_25 rfl ?_
      refine z_goto (tgt := 36) X dX8_drySheets_26 (by decide) ?_
      refine z_ireturn X dX8_drySheets_36 (Nat.le_refl _) (Nat.le_refl _) (fun _ hh => ⟨_, hh, _, rfl, ?_, ?_⟩)
      · first | assumption | omega
      · exact ⟨by rw [mset_s]; unfold gPap; (repeat' split) <;> omega, Or.inl ⟨by unfold gPap; (repeat' split) <;> omega, hA.num (by decide)⟩⟩
  · refine z_iconst (pc' := 11) X dX8_drySheets_10 rfl ?_
    refine z_goto (tgt := 15) X dX8_drySheets_11 (by decide) ?_
    refine z_mput (pc' := 18) X 10 3 rfl (by decide) q2073 rfl rfl rfl (by first | assumption | omega) dX8_drySheets_15 rfl (fun hR15 => ?_)
    refine z_aload_n (pc' := 19) X dX8_drySheets_18 rfl rfl ?_
    have hv19 := hR15 0 3
    refine z_mget (pc' := 22) X 10 rfl (by decide) q2073 rfl dX8_drySheets_19 rfl ?_
    rw [mset_s]
    rw [mset_s] at hv19
    refine z_if_le (tgt := 29) (pc' := 25) X (by first | assumption | omega) dX8_drySheets_22 rfl (by decide) (fun c22 => ?_) (fun c22 => ?_)
    · refine z_aload_n (pc' := 30) X dX8_drySheets_29 rfl rfl ?_
      refine z_iload_n (pc' := 31) X dX8_drySheets_30 rfl rfl ?_
      refine z_iload_n (pc' := 32) X dX8_drySheets_31 rfl rfl ?_
      refine z_iload_n (pc' := 33) X dX8_drySheets_32 rfl rfl ?_
      refine z_V_fun3 (pc' := 36) X rfl Y_X8_dry q2318 dX8_drySheets_33 rfl (by decide) (Nat.le_refl _) (Nat.le_refl _) (Nat.le_of_ble_eq_true rfl) (c_X8_dry _ _ _ _ _ _ _ (by first | assumption | omega) (by first | assumption | omega) (by first | assumption | omega) (by first | assumption | omega)) (fun r33 hr33 hp33 => ?_)
      subst hp33
      refine z_ireturn X dX8_drySheets_36 (Nat.le_refl _) (Nat.le_refl _) (fun _ hh => ⟨_, hh, _, rfl, ?_, ?_⟩)
      · first | assumption | omega
      · have hg0 : gPap a b c = 0 := by unfold gPap; (repeat' split) <;> omega
        rw [hg0]
        exact ⟨mset_s, Or.inr ⟨rfl, dryM_L hS0.2.2.1 a b c, hA0⟩⟩
    · exact absurd c22 (by decide)
theorem Y_X8_whyNotPacked : zYV yX8_whyNotPacked cX8_whyNotPacked 4 (some .int) 3 := ⟨⟨q2543, q2544, q132, q2545⟩, by decide +kernel, by decide⟩
set_option maxRecDepth 100000 in
theorem c_X8_whyNotPacked (l : Launch) (g : zG) (ma : Nat → Nat) (M : MM) (a b c : Int) (A : Ab) (P Q : Int) (ha : rng a) (hb : rng b) (hc : rng c) (hA : mRep M A) (hk : okA P Q A) (hP : P ≤ 900000) (hQ : Q ≤ 9000000) : mInt l yX8_whyNotPacked cX8_whyNotPacked 4 (some .int) 7 [vR (ma 0), vI a, vI b, vI c] g ma M (fun r M' => outP (gPap a b c) A (whyQS A.1 a b c) A r M') := by
  refine mInt.mk (L0 := [some (vR (ma 0)), some (vI a), some (vI b), some (vI c)]) (by decide) rfl (Nat.le_of_ble_eq_true rfl) rfl (fun C h hg hl hR X => ?_)
  subst hg hl
  obtain ⟨hS, hN, hH, hT⟩ := id hA
  obtain ⟨hkS, -, -, -⟩ := id hk
  obtain ⟨⟨kc1, -, kc3, kc4, kc5⟩, kb, kp, kq⟩ := id hkS
  have hI := hk.I hA hP hQ
  have hn := mI_n hI
  have hh0 : 0 ≤ M 0 0 ∧ M 0 0 ≤ 5 := ⟨by rw [hH.1]; omega, by rw [hH.1]; have := hH.2.1; omega⟩
  have s0 := sc_at hA (j := 0) (by unfold scI; omega)
  have s1 := sc_at hA (j := 1) (by unfold scI; omega)
  have hA0 : mRep (mset M 0 3 0) A := hA.num (by decide)
  have hS0 := hA0.1
  have hI0 : mI (mset M 0 3 0) := hk.I hA0 hP hQ
  have q4 := hS.2.1.1
  have q5 := hS.2.2.1.1
  have q6 := hS.2.2.2.1
  have p4 := hS0.2.1.1
  have p5 := hS0.2.2.1.1
  have p6 := hS0.2.2.2.1
  refine z_aload_n (pc' := 1) X dX8_whyNotPacked_0 rfl rfl ?_
  refine z_iload_n (pc' := 2) X dX8_whyNotPacked_1 rfl rfl ?_
  refine z_iload_n (pc' := 3) X dX8_whyNotPacked_2 rfl rfl ?_
  refine z_iload_n (pc' := 4) X dX8_whyNotPacked_3 rfl rfl ?_
  refine z_S_fun3 (pc' := 7) X Y_X8_isPaper q2311 dX8_whyNotPacked_4 rfl (by decide) (Nat.le_refl _) (Nat.le_refl _) (Nat.le_of_ble_eq_true rfl) (fun h _ => c_X8_isPaper _ _ _ _ _ _ (by first | assumption | omega) (by first | assumption | omega) (by first | assumption | omega)) (fun r4 hr4 hp4 => ?_)
  refine z_if_eq (tgt := 14) (pc' := 10) X (by first | assumption | omega) dX8_whyNotPacked_7 rfl (by decide) (fun c7 => ?_) (fun c7 => ?_)
  · refine z_iconst (pc' := 15) X dX8_whyNotPacked_14 rfl ?_
    refine z_mput (pc' := 18) X 10 3 rfl (by decide) q2073 rfl rfl rfl (by first | assumption | omega) dX8_whyNotPacked_15 rfl (fun hR15 => ?_)
    refine z_aload_n (pc' := 19) X dX8_whyNotPacked_18 rfl rfl ?_
    have hv19 := hR15 0 3
    refine z_mget (pc' := 22) X 10 rfl (by decide) q2073 rfl dX8_whyNotPacked_19 rfl ?_
    rw [mset_s]
    rw [mset_s] at hv19
    refine z_if_le (tgt := 29) (pc' := 25) X (by first | assumption | omega) dX8_whyNotPacked_22 rfl (by decide) (fun c22 => ?_) (fun c22 => ?_)
    · exact absurd c22 (by decide)
    · refine z_iconst (pc' := 26) X dX8_whyNotPacked_25 rfl ?_
      refine z_goto (tgt := 36) X dX8_whyNotPacked_26 (by decide) ?_
      refine z_ireturn X dX8_whyNotPacked_36 (Nat.le_refl _) (Nat.le_refl _) (fun _ hh => ⟨_, hh, _, rfl, ?_, ?_⟩)
      · first | assumption | omega
      · exact ⟨by rw [mset_s]; unfold gPap; (repeat' split) <;> omega, Or.inl ⟨by unfold gPap; (repeat' split) <;> omega, hA.num (by decide)⟩⟩
  · refine z_iconst (pc' := 11) X dX8_whyNotPacked_10 rfl ?_
    refine z_goto (tgt := 15) X dX8_whyNotPacked_11 (by decide) ?_
    refine z_mput (pc' := 18) X 10 3 rfl (by decide) q2073 rfl rfl rfl (by first | assumption | omega) dX8_whyNotPacked_15 rfl (fun hR15 => ?_)
    refine z_aload_n (pc' := 19) X dX8_whyNotPacked_18 rfl rfl ?_
    have hv19 := hR15 0 3
    refine z_mget (pc' := 22) X 10 rfl (by decide) q2073 rfl dX8_whyNotPacked_19 rfl ?_
    rw [mset_s]
    rw [mset_s] at hv19
    refine z_if_le (tgt := 29) (pc' := 25) X (by first | assumption | omega) dX8_whyNotPacked_22 rfl (by decide) (fun c22 => ?_) (fun c22 => ?_)
    · refine z_aload_n (pc' := 30) X dX8_whyNotPacked_29 rfl rfl ?_
      refine z_iload_n (pc' := 31) X dX8_whyNotPacked_30 rfl rfl ?_
      refine z_iload_n (pc' := 32) X dX8_whyNotPacked_31 rfl rfl ?_
      refine z_iload_n (pc' := 33) X dX8_whyNotPacked_32 rfl rfl ?_
      refine z_V_fun3 (pc' := 36) X rfl Y_X8_whyNoReam q2314 dX8_whyNotPacked_33 rfl (by decide) (Nat.le_refl _) (Nat.le_refl _) (Nat.le_of_ble_eq_true rfl) (c_X8_whyNoReam _ _ _ _ _ _ _ (by first | assumption | omega) (by first | assumption | omega) (by first | assumption | omega) (by first | assumption | omega)) (fun r33 hr33 hp33 => ?_)
      subst hp33
      refine z_ireturn X dX8_whyNotPacked_36 (Nat.le_refl _) (Nat.le_refl _) (fun _ hh => ⟨_, hh, _, rfl, ?_, ?_⟩)
      · first | assumption | omega
      · have hg0 : gPap a b c = 0 := by unfold gPap; (repeat' split) <;> omega
        rw [hg0]
        exact ⟨mset_s, Or.inr ⟨rfl, mWhyQ_S hS0, hA0⟩⟩
    · exact absurd c22 (by decide)
theorem Y_X8_quiresOf : zYV yX8_quiresOf cX8_quiresOf 2 (some .int) 1 := ⟨⟨q2551, q2552, q132, q2553⟩, by decide +kernel, by decide⟩
set_option maxRecDepth 100000 in
theorem c_X8_quiresOf (l : Launch) (g : zG) (ma : Nat → Nat) (M : MM) (p : Int) (A : Ab) (P Q : Int) (hp : rng p) (hA : mRep M A) (hk : okA P Q A) (hP : P ≤ 900000) (hQ : Q ≤ 9000000) : mInt l yX8_quiresOf cX8_quiresOf 2 (some .int) 7 [vR (ma 0), vI p] g ma M (fun r M' => outP (gAt A.1.2.2.2.length p) A ((atB A.1.2.2.2 p).2.2.2) A r M') := by
  refine mInt.mk (L0 := [some (vR (ma 0)), some (vI p)]) (by decide) rfl (Nat.le_of_ble_eq_true rfl) rfl (fun C h hg hl hR X => ?_)
  subst hg hl
  obtain ⟨hS, hN, hH, hT⟩ := id hA
  obtain ⟨hkS, -, -, -⟩ := id hk
  obtain ⟨⟨kc1, -, kc3, kc4, kc5⟩, kb, kp, kq⟩ := id hkS
  have hI := hk.I hA hP hQ
  have hn := mI_n hI
  have hh0 : 0 ≤ M 0 0 ∧ M 0 0 ≤ 5 := ⟨by rw [hH.1]; omega, by rw [hH.1]; have := hH.2.1; omega⟩
  have s0 := sc_at hA (j := 0) (by unfold scI; omega)
  have s1 := sc_at hA (j := 1) (by unfold scI; omega)
  have hA0 : mRep (mset M 0 3 0) A := hA.num (by decide)
  have hS0 := hA0.1
  have hI0 : mI (mset M 0 3 0) := hk.I hA0 hP hQ
  have q4 := hS.2.1.1
  have q5 := hS.2.2.1.1
  have q6 := hS.2.2.2.1
  have p4 := hS0.2.1.1
  have p5 := hS0.2.2.1.1
  have p6 := hS0.2.2.2.1
  refine z_aload_n (pc' := 1) X dX8_quiresOf_0 rfl rfl ?_
  refine z_aload_n (pc' := 2) X dX8_quiresOf_1 rfl rfl ?_
  refine z_iload_n (pc' := 3) X dX8_quiresOf_2 rfl rfl ?_
  refine z_V_fun1 (pc' := 6) X rfl Y_X8_isReam q2346 dX8_quiresOf_3 rfl (by decide) (Nat.le_refl _) (Nat.le_refl _) (Nat.le_of_ble_eq_true rfl) (c_X8_isReam _ _ _ _ _ (by first | assumption | omega) (by first | assumption | omega)) (fun r3 hr3 hp3 => ?_)
  refine z_if_eq (tgt := 13) (pc' := 9) X (by first | assumption | omega) dX8_quiresOf_6 rfl (by decide) (fun c6 => ?_) (fun c6 => ?_)
  · refine z_iconst (pc' := 14) X dX8_quiresOf_13 rfl ?_
    refine z_mput (pc' := 17) X 10 3 rfl (by decide) q2073 rfl rfl rfl (by first | assumption | omega) dX8_quiresOf_14 rfl (fun hR14 => ?_)
    refine z_aload_n (pc' := 18) X dX8_quiresOf_17 rfl rfl ?_
    have hv18 := hR14 0 3
    refine z_mget (pc' := 21) X 10 rfl (by decide) q2073 rfl dX8_quiresOf_18 rfl ?_
    rw [mset_s]
    rw [mset_s] at hv18
    refine z_if_le (tgt := 28) (pc' := 24) X (by first | assumption | omega) dX8_quiresOf_21 rfl (by decide) (fun c21 => ?_) (fun c21 => ?_)
    · exact absurd c21 (by decide)
    · refine z_iconst (pc' := 25) X dX8_quiresOf_24 rfl ?_
      refine z_goto (tgt := 34) X dX8_quiresOf_25 (by decide) ?_
      refine z_ireturn X dX8_quiresOf_34 (Nat.le_refl _) (Nat.le_refl _) (fun _ hh => ⟨_, hh, _, rfl, ?_, ?_⟩)
      · first | assumption | omega
      · exact ⟨by rw [mset_s]; unfold gAt; (repeat' split) <;> omega, Or.inl ⟨by unfold gAt; (repeat' split) <;> omega, hA.num (by decide)⟩⟩
  · refine z_iconst (pc' := 10) X dX8_quiresOf_9 rfl ?_
    refine z_goto (tgt := 14) X dX8_quiresOf_10 (by decide) ?_
    refine z_mput (pc' := 17) X 10 3 rfl (by decide) q2073 rfl rfl rfl (by first | assumption | omega) dX8_quiresOf_14 rfl (fun hR14 => ?_)
    refine z_aload_n (pc' := 18) X dX8_quiresOf_17 rfl rfl ?_
    have hv18 := hR14 0 3
    refine z_mget (pc' := 21) X 10 rfl (by decide) q2073 rfl dX8_quiresOf_18 rfl ?_
    rw [mset_s]
    rw [mset_s] at hv18
    refine z_if_le (tgt := 28) (pc' := 24) X (by first | assumption | omega) dX8_quiresOf_21 rfl (by decide) (fun c21 => ?_) (fun c21 => ?_)
    · refine z_aload_n (pc' := 29) X dX8_quiresOf_28 rfl rfl ?_
      refine z_iload_n (pc' := 30) X dX8_quiresOf_29 rfl rfl ?_
      refine z_iconst (pc' := 31) X dX8_quiresOf_30 rfl ?_
      refine z_V_fun2 (pc' := 34) X rfl Y_X8_ream q2354 dX8_quiresOf_31 rfl (by decide) (Nat.le_refl _) (Nat.le_refl _) (Nat.le_of_ble_eq_true rfl) (c_X8_ream _ _ _ _ _ _ (by first | assumption | omega) (by first | assumption | omega)) (fun r31 hr31 hp31 => ?_)
      subst hp31
      refine z_ireturn X dX8_quiresOf_34 (Nat.le_refl _) (Nat.le_refl _) (fun _ hh => ⟨_, hh, _, rfl, ?_, ?_⟩)
      · first | assumption | omega
      · have hg0 : gAt A.1.2.2.2.length p = 0 := by unfold gAt; (repeat' split) <;> omega
        rw [hg0]
        exact ⟨mset_s, Or.inr ⟨rfl, (rR_at hS0.2.2.2 (by omega)).2.2.2, hA0⟩⟩
    · exact absurd c21 (by decide)
theorem Y_X8_priceOf : zYV yX8_priceOf cX8_priceOf 2 (some .int) 1 := ⟨⟨q2555, q2556, q132, q2557⟩, by decide +kernel, by decide⟩
set_option maxRecDepth 100000 in
theorem c_X8_priceOf (l : Launch) (g : zG) (ma : Nat → Nat) (M : MM) (p : Int) (A : Ab) (P Q : Int) (hp : rng p) (hA : mRep M A) (hk : okA P Q A) (hP : P ≤ 900000) (hQ : Q ≤ 9000000) : mInt l yX8_priceOf cX8_priceOf 2 (some .int) 7 [vR (ma 0), vI p] g ma M (fun r M' => outP (gAt A.1.2.2.2.length p) A (priceQ (atB A.1.2.2.2 p)) A r M') := by
  refine mInt.mk (L0 := [some (vR (ma 0)), some (vI p)]) (by decide) rfl (Nat.le_of_ble_eq_true rfl) rfl (fun C h hg hl hR X => ?_)
  subst hg hl
  obtain ⟨hS, hN, hH, hT⟩ := id hA
  obtain ⟨hkS, -, -, -⟩ := id hk
  obtain ⟨⟨kc1, -, kc3, kc4, kc5⟩, kb, kp, kq⟩ := id hkS
  have hI := hk.I hA hP hQ
  have hn := mI_n hI
  have hh0 : 0 ≤ M 0 0 ∧ M 0 0 ≤ 5 := ⟨by rw [hH.1]; omega, by rw [hH.1]; have := hH.2.1; omega⟩
  have s0 := sc_at hA (j := 0) (by unfold scI; omega)
  have s1 := sc_at hA (j := 1) (by unfold scI; omega)
  have hA0 : mRep (mset M 0 3 0) A := hA.num (by decide)
  have hS0 := hA0.1
  have hI0 : mI (mset M 0 3 0) := hk.I hA0 hP hQ
  have q4 := hS.2.1.1
  have q5 := hS.2.2.1.1
  have q6 := hS.2.2.2.1
  have p4 := hS0.2.1.1
  have p5 := hS0.2.2.1.1
  have p6 := hS0.2.2.2.1
  refine z_aload_n (pc' := 1) X dX8_priceOf_0 rfl rfl ?_
  refine z_aload_n (pc' := 2) X dX8_priceOf_1 rfl rfl ?_
  refine z_iload_n (pc' := 3) X dX8_priceOf_2 rfl rfl ?_
  refine z_V_fun1 (pc' := 6) X rfl Y_X8_isReam q2346 dX8_priceOf_3 rfl (by decide) (Nat.le_refl _) (Nat.le_refl _) (Nat.le_of_ble_eq_true rfl) (c_X8_isReam _ _ _ _ _ (by first | assumption | omega) (by first | assumption | omega)) (fun r3 hr3 hp3 => ?_)
  refine z_if_eq (tgt := 13) (pc' := 9) X (by first | assumption | omega) dX8_priceOf_6 rfl (by decide) (fun c6 => ?_) (fun c6 => ?_)
  · refine z_iconst (pc' := 14) X dX8_priceOf_13 rfl ?_
    refine z_mput (pc' := 17) X 10 3 rfl (by decide) q2073 rfl rfl rfl (by first | assumption | omega) dX8_priceOf_14 rfl (fun hR14 => ?_)
    refine z_aload_n (pc' := 18) X dX8_priceOf_17 rfl rfl ?_
    have hv18 := hR14 0 3
    refine z_mget (pc' := 21) X 10 rfl (by decide) q2073 rfl dX8_priceOf_18 rfl ?_
    rw [mset_s]
    rw [mset_s] at hv18
    refine z_if_le (tgt := 28) (pc' := 24) X (by first | assumption | omega) dX8_priceOf_21 rfl (by decide) (fun c21 => ?_) (fun c21 => ?_)
    · exact absurd c21 (by decide)
    · refine z_iconst (pc' := 25) X dX8_priceOf_24 rfl ?_
      refine z_goto (tgt := 33) X dX8_priceOf_25 (by decide) ?_
      refine z_ireturn X dX8_priceOf_33 (Nat.le_refl _) (Nat.le_refl _) (fun _ hh => ⟨_, hh, _, rfl, ?_, ?_⟩)
      · first | assumption | omega
      · exact ⟨by rw [mset_s]; unfold gAt; (repeat' split) <;> omega, Or.inl ⟨by unfold gAt; (repeat' split) <;> omega, hA.num (by decide)⟩⟩
  · refine z_iconst (pc' := 10) X dX8_priceOf_9 rfl ?_
    refine z_goto (tgt := 14) X dX8_priceOf_10 (by decide) ?_
    refine z_mput (pc' := 17) X 10 3 rfl (by decide) q2073 rfl rfl rfl (by first | assumption | omega) dX8_priceOf_14 rfl (fun hR14 => ?_)
    refine z_aload_n (pc' := 18) X dX8_priceOf_17 rfl rfl ?_
    have hv18 := hR14 0 3
    refine z_mget (pc' := 21) X 10 rfl (by decide) q2073 rfl dX8_priceOf_18 rfl ?_
    rw [mset_s]
    rw [mset_s] at hv18
    refine z_if_le (tgt := 28) (pc' := 24) X (by first | assumption | omega) dX8_priceOf_21 rfl (by decide) (fun c21 => ?_) (fun c21 => ?_)
    · refine z_aload_n (pc' := 29) X dX8_priceOf_28 rfl rfl ?_
      refine z_iload_n (pc' := 30) X dX8_priceOf_29 rfl rfl ?_
      refine z_V_fun1 (pc' := 33) X rfl Y_X8_price q2358 dX8_priceOf_30 rfl (by decide) (Nat.le_refl _) (Nat.le_refl _) (Nat.le_of_ble_eq_true rfl) (c_X8_price _ _ _ _ _ (by first | assumption | omega) (by first | assumption | omega)) (fun r30 hr30 hp30 => ?_)
      subst hp30
      refine z_ireturn X dX8_priceOf_33 (Nat.le_refl _) (Nat.le_refl _) (fun _ hh => ⟨_, hh, _, rfl, ?_, ?_⟩)
      · first | assumption | omega
      · have hg0 : gAt A.1.2.2.2.length p = 0 := by unfold gAt; (repeat' split) <;> omega
        rw [hg0]
        exact ⟨mset_s, Or.inr ⟨rfl, by have hri := rR_at hS0.2.2.2 (i := p) (by omega); unfold mPrice; rw [hri.2.1, hri.2.2.1, hri.2.2.2]; rfl, hA0⟩⟩
    · exact absurd c21 (by decide)
end M13

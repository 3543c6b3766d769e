/-! THE MODEL: making sheets -/
section M9
theorem sRep.set {M : MM} {S : St} {j z : Int} (h : sRep (M 1) S) (hj : scI j) : sRep (mset M 1 j z 1) (iup S.1 j z, S.2) := by
  obtain ⟨hs, hb, hp, hr⟩ := h
  unfold scI at hj
  refine ⟨fun i hi => ?_, hb.same (mset_k (by omega)) (fun i a c => mset_k (by omega)), hp.same (mset_k (by omega)) (fun i a c => mset_k (by omega)), hr.same (mset_k (by omega)) (fun i a c => mset_k (by omega))⟩
  rw [mset_f]
  show iup (M 1) j z i = iup S.1 j z i
  unfold iup
  rw [hs i hi]
theorem sRep.ext {N : Int → Int} {S : St} {f : Int → Int} (h : sRep N S) (hf : ∀ j, scI j → S.1 j = f j) : sRep N (f, S.2) := ⟨fun j hj => (h.1 j hj).trans (hf j hj), h.2⟩
theorem sRep.fill {M : MM} {S : St} {v : Int} (h : sRep (M 1) S) (hv : 0 ≤ v ∧ v < 3) : sRep (mfill M 1 (117 + 3 * v) 3 0 1) (iup (iup (iup S.1 (117 + 3 * v) 0) (117 + 3 * v + 1) 0) (117 + 3 * v + 2) 0, S.2) := by
  obtain ⟨hs, hb, hp, hr⟩ := h
  have o : ∀ j, (j < 117 ∨ 126 ≤ j) → mfill M 1 (117 + 3 * v) 3 0 1 j = M 1 j := fun j hj => if_neg (by omega)
  refine ⟨fun i hi => ?_, hb.same (o _ (by omega)) (fun i a c => o _ (by omega)), hp.same (o _ (by omega)) (fun i a c => o _ (by omega)), hr.same (o _ (by omega)) (fun i a c => o _ (by omega))⟩
  show mfill M 1 (117 + 3 * v) 3 0 1 i = iup (iup (iup S.1 (117 + 3 * v) 0) (117 + 3 * v + 1) 0) (117 + 3 * v + 2) 0 i
  unfold mfill iup
  by_cases h1 : 117 + 3 * v ≤ i ∧ i < 117 + 3 * v + 3
  · rw [if_pos ⟨rfl, h1⟩]
    (repeat' split) <;> omega
  · rw [if_neg (fun q => h1 q.2), if_neg (by omega), if_neg (by omega), if_neg (by omega)]
    exact hs i hi
theorem sRep.pile {M : MM} {S : St} {a b c e : Int} (h : sRep (M 1) S) (hl : M 1 5 < 12) : sRep (mset (mset (mset (mset (mset (mset M 1 (141 + 5 * M 1 5) a) 1 (141 + 5 * M 1 5 + 1) b) 1 (141 + 5 * M 1 5 + 2) c) 1 (141 + 5 * M 1 5 + 3) e) 1 (141 + 5 * M 1 5 + 4) 0) 1 5 (M 1 5 + 1) 1) (S.1, S.2.1, S.2.2.1 ++ [(a, b, c, e, 0)], S.2.2.2) := by
  obtain ⟨hs, hb, hp, hr⟩ := h
  have h5 := hp.1
  have hl2 : S.2.2.1.length < 12 := by omega
  rw [h5]
  have o : ∀ j, j ≠ 5 → (j < 141 + 5 * (S.2.2.1.length : Int) ∨ 141 + 5 * (S.2.2.1.length : Int) + 4 < j) → mset (mset (mset (mset (mset (mset M 1 (141 + 5 * (S.2.2.1.length : Int)) a) 1 (141 + 5 * (S.2.2.1.length : Int) + 1) b) 1 (141 + 5 * (S.2.2.1.length : Int) + 2) c) 1 (141 + 5 * (S.2.2.1.length : Int) + 3) e) 1 (141 + 5 * (S.2.2.1.length : Int) + 4) 0) 1 5 ((S.2.2.1.length : Int) + 1) 1 j = M 1 j := fun j x y => by
    rw [mset_k x, mset_k (by omega), mset_k (by omega), mset_k (by omega), mset_k (by omega), mset_k (by omega)]
  refine ⟨fun i hi => ?_, hb.same (o _ (by omega) (by omega)) (fun i a c => o _ (by omega) (by omega)), hp.push hl2 ?_ (fun j x y => o j (by omega) (by omega)) ⟨?_, ?_, ?_, ?_, ?_⟩, hr.same (o _ (by omega) (by omega)) (fun i a c => o _ (by omega) (by omega))⟩
  · unfold scI at hi
    rw [o i (by omega) (by omega)]
    exact hs i hi
  · rw [mset_s, h5]
  · rw [mset_k (by omega), mset_k (by omega), mset_k (by omega), mset_k (by omega), mset_k (by omega), Int.add_zero, mset_s]
  · rw [mset_k (by omega), mset_k (by omega), mset_k (by omega), mset_k (by omega), mset_s]
  · rw [mset_k (by omega), mset_k (by omega), mset_k (by omega), mset_s]
  · rw [mset_k (by omega), mset_k (by omega), mset_s]
  · rw [mset_k (by omega), mset_s]
def ptsN (f : Int → Int) (v m : Int) : Int := f (117 + 3 * v + 2) + (if f (117 + 3 * v + 1) ≤ 24 then f (117 + 3 * v + 1) else 48 - f (117 + 3 * v + 1)) - f (126 + 3 * m + 1) / 100
def mkAllN (f : Int → Int) (v m n : Int) : Int := n * ((100 - ptsN f v m) / 4) + f (126 + 3 * m + 2)
def mkSomeN (f : Int → Int) (v m n : Int) : Int := n - mkAllN f v m n / 100
def mkF1 (f : Int → Int) (v m n : Int) : Int → Int := iup (iup (iup f (126 + 3 * m + 2) (mkAllN f v m n % 100)) (126 + 3 * m + 1) (f (126 + 3 * m + 1) + n)) (117 + 3 * v) (f (117 + 3 * v) - mkSomeN f v m n * mZ (m % 3))
def mkF (f : Int → Int) (v m n : Int) : Int → Int := if f (117 + 3 * v) - mkSomeN f v m n * mZ (m % 3) = 0 then iup (iup (iup (mkF1 f v m n) (117 + 3 * v) 0) (117 + 3 * v + 1) 0) (117 + 3 * v + 2) 0 else mkF1 f v m n
def makeS (v m n : Int) (S : St) : St := (mkF S.1 v m n, S.2.1, if 0 < mkSomeN S.1 v m n then S.2.2.1 ++ [(S.1 (126 + 3 * m), m % 3, mkGr (ptsN S.1 v m), mkSomeN S.1 v m n, 0)] else S.2.2.1, S.2.2.2)
theorem mk_eq {M : MM} {S : St} (h : sRep (M 1) S) {v m n : Int} (hv : 0 ≤ v ∧ v < 3) (hm : 0 ≤ m ∧ m < 5) : ptsN S.1 v m = mPts M v m ∧ mkAllN S.1 v m n = mkAll M v m n ∧ mkSomeN S.1 v m n = mkSome M v m n ∧ S.1 (117 + 3 * v) = mU M v ∧ S.1 (126 + 3 * m) = mMk M m ∧ S.1 (126 + 3 * m + 1) = mMo M m 1 := by
  have e : ∀ j, scI j → S.1 j = M 1 j := fun j hj => (h.1 j hj).symm
  have h1 : ptsN S.1 v m = mPts M v m := by
    unfold ptsN
    rw [e _ (by unfold scI; omega), e _ (by unfold scI; omega), e _ (by unfold scI; omega)]
    rfl
  have h2 : mkAllN S.1 v m n = mkAll M v m n := by
    unfold mkAllN
    rw [h1, e _ (by unfold scI; omega)]
    rfl
  refine ⟨h1, h2, ?_, e _ (by unfold scI; omega), e _ (by unfold scI; omega), e _ (by unfold scI; omega)⟩
  unfold mkSomeN
  rw [h2]
  rfl
theorem mk_end {M M1 M2 M' : MM} {S : St} {v m n : Int} (h : sRep (M 1) S) (hv : 0 ≤ v ∧ v < 3) (hm : 0 ≤ m ∧ m < 5) (hl : M 1 5 < 12)
    (h1 : M1 = mset (mset (mset M 1 (126 + 3 * m + 2) (mkAll M v m n % 100)) 1 (126 + 3 * m + 1) (mMo M m 1 + n)) 1 (117 + 3 * v) (mU M v - mkSome M v m n * mZ (m % 3)))
    (h2 : (0 < mkSome M v m n ∧ M2 = mset (mset (mset (mset (mset (mset M1 1 (141 + 5 * M 1 5) (mMk M m)) 1 (141 + 5 * M 1 5 + 1) (m % 3)) 1 (141 + 5 * M 1 5 + 2) (mkGr (mPts M v m))) 1 (141 + 5 * M 1 5 + 3) (mkSome M v m n)) 1 (141 + 5 * M 1 5 + 4) 0) 1 5 (M 1 5 + 1)) ∨ (¬ 0 < mkSome M v m n ∧ M2 = M1))
    (h3 : (mU M v - mkSome M v m n * mZ (m % 3) = 0 ∧ M' = mfill M2 1 (117 + 3 * v) 3 0) ∨ (mU M v - mkSome M v m n * mZ (m % 3) ≠ 0 ∧ M' = M2)) : sRep (M' 1) (makeS v m n S) ∧ ∀ q, q ≠ 1 → M' q = M q := by
  obtain ⟨e1, e2, e3, e4, e5, e6⟩ := mk_eq (n := n) h hv hm
  have a1 : sRep (M1 1) (mkF1 S.1 v m n, S.2) := by
    rw [h1]
    unfold mkF1
    rw [e2, e6, e4, e3]
    exact ((h.set (by unfold scI; omega)).set (by unfold scI; omega)).set (by unfold scI; omega)
  have r1 : ∀ q, q ≠ 1 → M1 q = M q := fun q hq => by rw [h1, mset_r hq, mset_r hq, mset_r hq]
  have m5 : M1 1 5 = M 1 5 := by rw [h1, mset_k (by omega), mset_k (by omega), mset_k (by omega)]
  have a2 : sRep (M2 1) (mkF1 S.1 v m n, S.2.1, (if 0 < mkSomeN S.1 v m n then S.2.2.1 ++ [(S.1 (126 + 3 * m), m % 3, mkGr (ptsN S.1 v m), mkSomeN S.1 v m n, 0)] else S.2.2.1), S.2.2.2) ∧ ∀ q, q ≠ 1 → M2 q = M1 q := by
    rw [e3, e5, e1]
    rcases h2 with ⟨hc, h2⟩ | ⟨hc, h2⟩
    · rw [if_pos hc, h2, ← m5]
      exact ⟨a1.pile (by rw [m5]; exact hl), fun q hq => by rw [mset_r hq, mset_r hq, mset_r hq, mset_r hq, mset_r hq, mset_r hq]⟩
    · rw [if_neg hc, h2]
      exact ⟨a1, fun _ _ => rfl⟩
  unfold makeS mkF
  rw [e4, e3] at *
  rcases h3 with ⟨hc, h3⟩ | ⟨hc, h3⟩
  · rw [if_pos hc, h3]
    exact ⟨a2.1.fill hv, fun q hq => (funext fun j => if_neg (fun z => hq z.1)).trans ((a2.2 q hq).trans (r1 q hq))⟩
  · rw [if_neg hc, h3]
    exact ⟨a2.1, fun q hq => (a2.2 q hq).trans (r1 q hq)⟩
theorem Y_X8_makes : zYV yX8_makes cX8_makes 8 (some .int) 3 := ⟨⟨q2305, qs69, q132, q2306⟩, by decide +kernel, by decide⟩
set_option maxRecDepth 100000 in
theorem c_X8_makes (l : Launch) (g : zG) (ma : Nat → Nat) (M : MM) (v m n : Int) (S : St) (hv : 0 ≤ v ∧ v < 3) (hm : 0 ≤ m ∧ m < 5) (hn : 1 ≤ n ∧ n ≤ 480) (hI : mI M) (hS : sRep (M 1) S) (hp : 30 ≤ mPts M v m) (hu : n * mZ (m % 3) ≤ mU M v) (h5 : M 1 5 < 12) (hw : mMo M m 1 + n ≤ 2000) : mInt l yX8_makes cX8_makes 8 (some .int) 3 [vR (ma 0), vI v, vI m, vI n] g ma M (fun r M' => r = mkSome M v m n ∧ sRep (M' 1) (makeS v m n S) ∧ ∀ q, q ≠ 1 → M' q = M q) := by
  refine mInt.mk (L0 := [some (vR (ma 0)), some (vI v), some (vI m), some (vI n), none, none, none, none]) (by decide) rfl (Nat.le_of_ble_eq_true rfl) rfl (fun C h hg hl hR X => ?_)
  subst hg hl
  have hI1 := mI_v hI hv
  have hI2 := mI_m hI hm
  have hI3 := mI_n hI
  have hI4 := mPts_b hI hv hm
  have hb := mk_b hI hv hm hn hp
  have hZ := mZ_b (m % 3)
  have hsz := mulb (a := mkSome M v m n) (b := mZ (m % 3)) (A := 480) (B := 4) (by omega) (by omega)
  have hsu : mkSome M v m n * mZ (m % 3) ≤ n * mZ (m % 3) := Int.mul_le_mul_of_nonneg_right hb.2.2.2 (by omega)
  refine z_aload_n (pc' := 1) X dX8_makes_0 rfl rfl ?_
  refine z_iload_n (pc' := 2) X dX8_makes_1 rfl rfl ?_
  refine z_iload_n (pc' := 3) X dX8_makes_2 rfl rfl ?_
  refine z_V_fun2 (pc' := 6) X rfl Y_X8_points q2299 dX8_makes_3 rfl (by decide) (Nat.le_refl _) (Nat.le_refl _) (Nat.le_of_ble_eq_true rfl) (c_X8_points _ _ _ _ _ _ (by first | assumption | omega) (by first | assumption | omega) (by first | assumption | omega)) (fun r3 hr3 hp3 => ?_)
  subst hp3
  refine z_istore (pc' := 8) X dX8_makes_6 rfl (by decide) rfl ?_
  dsimp only [List.set]
  refine z_iload_n (pc' := 9) X dX8_makes_8 rfl rfl ?_
  refine z_bipush (pc' := 11) X dX8_makes_9 rfl (by decide) ?_
  refine z_iload (pc' := 13) X dX8_makes_11 rfl rfl ?_
  refine z_isub (pc' := 14) X dX8_makes_13 rfl ?_
  refine z_iconst (pc' := 15) X dX8_makes_14 rfl ?_
  refine z_idivp (pc' := 16) X (by first | assumption | omega) (by decide) dX8_makes_15 rfl ?_
  refine z_imul (pc' := 17) X dX8_makes_16 rfl ?_
  refine z_aload_n (pc' := 18) X dX8_makes_17 rfl rfl ?_
  refine z_mget (pc' := 21) X 0 rfl (by decide) q2063 rfl dX8_makes_18 rfl ?_
  refine z_bipush (pc' := 23) X dX8_makes_21 rfl (by decide) ?_
  refine z_iconst (pc' := 24) X dX8_makes_23 rfl ?_
  refine z_iload_n (pc' := 25) X dX8_makes_24 rfl rfl ?_
  refine z_imul (pc' := 26) X dX8_makes_25 rfl ?_
  refine z_iadd (pc' := 27) X dX8_makes_26 rfl ?_
  refine z_iconst (pc' := 28) X dX8_makes_27 rfl ?_
  refine z_iadd (pc' := 29) X dX8_makes_28 rfl ?_
  refine z_mld (pc' := 30) X (r := 1) (by decide) (show 0 ≤ _ ∧ _ < (321 : Int) by omega) dX8_makes_29 rfl (fun hv29 => ?_)
  refine z_iadd (pc' := 31) X dX8_makes_30 rfl ?_
  refine ZP.top (a' := mkAll M v m n) rfl ?_
  refine z_istore (pc' := 33) X dX8_makes_31 rfl (by decide) rfl ?_
  dsimp only [List.set]
  refine z_iload_n (pc' := 34) X dX8_makes_33 rfl rfl ?_
  refine z_iload (pc' := 36) X dX8_makes_34 rfl rfl ?_
  refine z_bipush (pc' := 38) X dX8_makes_36 rfl (by decide) ?_
  refine z_idivp (pc' := 39) X (by first | assumption | omega) (by decide) dX8_makes_38 rfl ?_
  refine z_isub (pc' := 40) X dX8_makes_39 rfl ?_
  refine ZP.top (a' := mkSome M v m n) rfl ?_
  refine z_istore (pc' := 42) X dX8_makes_40 rfl (by decide) rfl ?_
  dsimp only [List.set]
  refine z_aload_n (pc' := 43) X dX8_makes_42 rfl rfl ?_
  refine z_mget (pc' := 46) X 0 rfl (by decide) q2063 rfl dX8_makes_43 rfl ?_
  refine z_bipush (pc' := 48) X dX8_makes_46 rfl (by decide) ?_
  refine z_iconst (pc' := 49) X dX8_makes_48 rfl ?_
  refine z_iload_n (pc' := 50) X dX8_makes_49 rfl rfl ?_
  refine z_imul (pc' := 51) X dX8_makes_50 rfl ?_
  refine z_iadd (pc' := 52) X dX8_makes_51 rfl ?_
  refine z_iconst (pc' := 53) X dX8_makes_52 rfl ?_
  refine z_iadd (pc' := 54) X dX8_makes_53 rfl ?_
  refine z_iload (pc' := 56) X dX8_makes_54 rfl rfl ?_
  refine z_bipush (pc' := 58) X dX8_makes_56 rfl (by decide) ?_
  refine z_iremp (pc' := 59) X (by first | assumption | omega) (by decide) dX8_makes_58 rfl ?_
  refine z_mst (pc' := 60) X (r := 1) (by decide) (show 0 ≤ _ ∧ _ < (321 : Int) by omega) (by first | assumption | omega) dX8_makes_59 rfl (fun hR59 => ?_)
  refine z_aload_n (pc' := 61) X dX8_makes_60 rfl rfl ?_
  refine z_mget (pc' := 64) X 0 rfl (by decide) q2063 rfl dX8_makes_61 rfl ?_
  refine z_bipush (pc' := 66) X dX8_makes_64 rfl (by decide) ?_
  refine z_iconst (pc' := 67) X dX8_makes_66 rfl ?_
  refine z_iload_n (pc' := 68) X dX8_makes_67 rfl rfl ?_
  refine z_imul (pc' := 69) X dX8_makes_68 rfl ?_
  refine z_iadd (pc' := 70) X dX8_makes_69 rfl ?_
  refine z_iconst (pc' := 71) X dX8_makes_70 rfl ?_
  refine z_iadd (pc' := 72) X dX8_makes_71 rfl ?_
  refine z_dup2 (pc' := 73) X rfl rfl dX8_makes_72 rfl ?_
  refine z_mld (pc' := 74) X (r := 1) (by decide) (show 0 ≤ _ ∧ _ < (321 : Int) by omega) dX8_makes_73 rfl (fun hv73 => ?_)
  rw [mset_k (by omega)]
  repeat rw [mset_k (by omega)] at hv73
  refine z_iload_n (pc' := 75) X dX8_makes_74 rfl rfl ?_
  refine z_iadd (pc' := 76) X dX8_makes_75 rfl ?_
  refine ZP.top (a' := mMo M m 1 + n) rfl ?_
  refine z_mst (pc' := 77) X (r := 1) (by decide) (show 0 ≤ _ ∧ _ < (321 : Int) by omega) (by first | assumption | omega) dX8_makes_76 rfl (fun hR76 => ?_)
  refine z_aload_n (pc' := 78) X dX8_makes_77 rfl rfl ?_
  refine z_mget (pc' := 81) X 0 rfl (by decide) q2063 rfl dX8_makes_78 rfl ?_
  refine z_bipush (pc' := 83) X dX8_makes_81 rfl (by decide) ?_
  refine z_iconst (pc' := 84) X dX8_makes_83 rfl ?_
  refine z_iload_n (pc' := 85) X dX8_makes_84 rfl rfl ?_
  refine z_imul (pc' := 86) X dX8_makes_85 rfl ?_
  refine z_iadd (pc' := 87) X dX8_makes_86 rfl ?_
  refine z_dup2 (pc' := 88) X rfl rfl dX8_makes_87 rfl ?_
  refine z_mld (pc' := 89) X (r := 1) (by decide) (show 0 ≤ _ ∧ _ < (321 : Int) by omega) dX8_makes_88 rfl (fun hv88 => ?_)
  rw [mset_k (by omega)]
  rw [mset_k (by omega)]
  repeat rw [mset_k (by omega)] at hv88
  refine z_iload (pc' := 91) X dX8_makes_89 rfl rfl ?_
  refine z_iload_n (pc' := 92) X dX8_makes_91 rfl rfl ?_
  refine z_iconst (pc' := 93) X dX8_makes_92 rfl ?_
  refine z_iremp (pc' := 94) X (by first | assumption | omega) (by decide) dX8_makes_93 rfl ?_
  refine z_S_fun1 (pc' := 97) X Y_X8_unitsBy q2296 dX8_makes_94 rfl (by decide) (Nat.le_refl _) (Nat.le_refl _) (Nat.le_of_ble_eq_true rfl) (fun h _ => c_X8_unitsBy _ _ _ _ (by first | assumption | omega)) (fun r94 hr94 hp94 => ?_)
  subst hp94
  refine z_imul (pc' := 98) X dX8_makes_97 rfl ?_
  refine z_isub (pc' := 99) X dX8_makes_98 rfl ?_
  refine ZP.top (a' := mU M v - mkSome M v m n * mZ (m % 3)) rfl ?_
  refine z_mst (pc' := 100) X (r := 1) (by decide) (show 0 ≤ _ ∧ _ < (321 : Int) by omega) (by first | assumption | omega) dX8_makes_99 rfl (fun hR99 => ?_)
  refine z_iload (pc' := 102) X dX8_makes_100 rfl rfl ?_
  refine z_if_le (tgt := 212) (pc' := 105) X (by first | assumption | omega) dX8_makes_102 rfl (by decide) (fun c102 => ?_) (fun c102 => ?_)
  · refine z_aload_n (pc' := 213) X dX8_makes_212 rfl rfl ?_
    refine z_iload_n (pc' := 214) X dX8_makes_213 rfl rfl ?_
    refine z_V_fun1 (pc' := 217) X rfl Y_X8_units q2220 dX8_makes_214 rfl (by decide) (Nat.le_refl _) (Nat.le_refl _) (Nat.le_of_ble_eq_true rfl) (c_X8_units _ _ _ _ _ (by first | assumption | omega)) (fun r214 hr214 hp214 => ?_)
    subst hp214
    unfold mU at hr214
    repeat rw [mset_k (by omega)] at hr214
    rw [mset_s] at hr214
    refine ZP.top (a' := mU M v - mkSome M v m n * mZ (m % 3)) (by (unfold mU; repeat rw [mset_k (by omega)]); rw [mset_s]) ?_
    refine z_if_ne (tgt := 225) (pc' := 220) X (by first | assumption | omega) dX8_makes_217 rfl (by decide) (fun c217 => ?_) (fun c217 => ?_)
    · refine z_iload (pc' := 227) X dX8_makes_225 rfl rfl ?_
      refine z_ireturn X dX8_makes_227 (Nat.le_refl _) (Nat.le_refl _) (fun _ hh => ⟨_, hh, _, rfl, ?_, ?_⟩)
      · first | assumption | omega
      · first | exact ⟨rfl, mk_end hS hv hm h5 rfl (Or.inl ⟨by omega, rfl⟩) (Or.inl ⟨by omega, rfl⟩)⟩ | exact ⟨rfl, mk_end hS hv hm h5 rfl (Or.inl ⟨by omega, rfl⟩) (Or.inr ⟨by omega, rfl⟩)⟩ | exact ⟨rfl, mk_end hS hv hm h5 rfl (Or.inr ⟨by omega, rfl⟩) (Or.inl ⟨by omega, rfl⟩)⟩ | exact ⟨rfl, mk_end hS hv hm h5 rfl (Or.inr ⟨by omega, rfl⟩) (Or.inr ⟨by omega, rfl⟩)⟩
    · refine z_aload_n (pc' := 221) X dX8_makes_220 rfl rfl ?_
      refine z_iload_n (pc' := 222) X dX8_makes_221 rfl rfl ?_
      refine z_V_void1 (pc' := 225) X rfl Y_X8_isEmptied q2262 dX8_makes_222 rfl (by decide) (Nat.le_refl _) (Nat.le_refl _) (Nat.le_of_ble_eq_true rfl) (c_X8_isEmptied _ _ _ _ _ (by first | assumption | omega)) (fun M222 hp222 hR222 => ?_)
      subst hp222
      refine z_iload (pc' := 227) X dX8_makes_225 rfl rfl ?_
      refine z_ireturn X dX8_makes_227 (Nat.le_refl _) (Nat.le_refl _) (fun _ hh => ⟨_, hh, _, rfl, ?_, ?_⟩)
      · first | assumption | omega
      · first | exact ⟨rfl, mk_end hS hv hm h5 rfl (Or.inl ⟨by omega, rfl⟩) (Or.inl ⟨by omega, rfl⟩)⟩ | exact ⟨rfl, mk_end hS hv hm h5 rfl (Or.inl ⟨by omega, rfl⟩) (Or.inr ⟨by omega, rfl⟩)⟩ | exact ⟨rfl, mk_end hS hv hm h5 rfl (Or.inr ⟨by omega, rfl⟩) (Or.inl ⟨by omega, rfl⟩)⟩ | exact ⟨rfl, mk_end hS hv hm h5 rfl (Or.inr ⟨by omega, rfl⟩) (Or.inr ⟨by omega, rfl⟩)⟩
  · refine z_sipush (pc' := 108) X dX8_makes_105 rfl (by decide) ?_
    refine z_iconst (pc' := 109) X dX8_makes_108 rfl ?_
    refine z_aload_n (pc' := 110) X dX8_makes_109 rfl rfl ?_
    refine z_mget (pc' := 113) X 0 rfl (by decide) q2063 rfl dX8_makes_110 rfl ?_
    refine z_iconst (pc' := 114) X dX8_makes_113 rfl ?_
    refine z_mld (pc' := 115) X (r := 1) (by decide) (show 0 ≤ _ ∧ _ < (321 : Int) by omega) dX8_makes_114 rfl (fun hv114 => ?_)
    rw [mset_k (by omega)]
    rw [mset_k (by omega)]
    rw [mset_k (by omega)]
    repeat rw [mset_k (by omega)] at hv114
    refine z_imul (pc' := 116) X dX8_makes_115 rfl ?_
    refine z_iadd (pc' := 117) X dX8_makes_116 rfl ?_
    refine z_istore (pc' := 119) X dX8_makes_117 rfl (by decide) rfl ?_
    dsimp only [List.set]
    refine z_aload_n (pc' := 120) X dX8_makes_119 rfl rfl ?_
    refine z_mget (pc' := 123) X 0 rfl (by decide) q2063 rfl dX8_makes_120 rfl ?_
    refine z_iload (pc' := 125) X dX8_makes_123 rfl rfl ?_
    refine z_aload_n (pc' := 126) X dX8_makes_125 rfl rfl ?_
    refine z_mget (pc' := 129) X 0 rfl (by decide) q2063 rfl dX8_makes_126 rfl ?_
    refine z_bipush (pc' := 131) X dX8_makes_129 rfl (by decide) ?_
    refine z_iconst (pc' := 132) X dX8_makes_131 rfl ?_
    refine z_iload_n (pc' := 133) X dX8_makes_132 rfl rfl ?_
    refine z_imul (pc' := 134) X dX8_makes_133 rfl ?_
    refine z_iadd (pc' := 135) X dX8_makes_134 rfl ?_
    refine z_mld (pc' := 136) X (r := 1) (by decide) (show 0 ≤ _ ∧ _ < (321 : Int) by omega) dX8_makes_135 rfl (fun hv135 => ?_)
    rw [mset_k (by omega)]
    rw [mset_k (by omega)]
    rw [mset_k (by omega)]
    repeat rw [mset_k (by omega)] at hv135
    rw [show M 1 (126 + 3 * m) = mMk M m from rfl]
    refine z_mst (pc' := 137) X (r := 1) (by decide) (show 0 ≤ _ ∧ _ < (321 : Int) by omega) (by first | assumption | omega) dX8_makes_136 rfl (fun hR136 => ?_)
    refine z_aload_n (pc' := 138) X dX8_makes_137 rfl rfl ?_
    refine z_mget (pc' := 141) X 0 rfl (by decide) q2063 rfl dX8_makes_138 rfl ?_
    refine z_iload (pc' := 143) X dX8_makes_141 rfl rfl ?_
    refine z_iconst (pc' := 144) X dX8_makes_143 rfl ?_
    refine z_iadd (pc' := 145) X dX8_makes_144 rfl ?_
    refine z_iload_n (pc' := 146) X dX8_makes_145 rfl rfl ?_
    refine z_iconst (pc' := 147) X dX8_makes_146 rfl ?_
    refine z_iremp (pc' := 148) X (by first | assumption | omega) (by decide) dX8_makes_147 rfl ?_
    refine z_mst (pc' := 149) X (r := 1) (by decide) (show 0 ≤ _ ∧ _ < (321 : Int) by omega) (by first | assumption | omega) dX8_makes_148 rfl (fun hR148 => ?_)
    refine z_aload_n (pc' := 150) X dX8_makes_149 rfl rfl ?_
    refine z_mget (pc' := 153) X 0 rfl (by decide) q2063 rfl dX8_makes_150 rfl ?_
    refine z_iload (pc' := 155) X dX8_makes_153 rfl rfl ?_
    refine z_iconst (pc' := 156) X dX8_makes_155 rfl ?_
    refine z_iadd (pc' := 157) X dX8_makes_156 rfl ?_
    refine z_iload (pc' := 159) X dX8_makes_157 rfl rfl ?_
    refine z_bipush (pc' := 161) X dX8_makes_159 rfl (by decide) ?_
    refine z_icmp_lt (tgt := 168) (pc' := 164) X (by first | assumption | omega) (by first | assumption | omega) dX8_makes_161 rfl (by decide) (fun c161 => ?_) (fun c161 => ?_)
    · refine z_iload (pc' := 170) X dX8_makes_168 rfl rfl ?_
      refine z_bipush (pc' := 172) X dX8_makes_170 rfl (by decide) ?_
      refine z_icmp_lt (tgt := 179) (pc' := 175) X (by first | assumption | omega) (by first | assumption | omega) dX8_makes_172 rfl (by decide) (fun c172 => ?_) (fun c172 => ?_)
      · refine z_iconst (pc' := 180) X dX8_makes_179 rfl ?_
        refine ZP.top (a' := mkGr (mPts M v m)) (by unfold mkGr; first | rw [if_pos (by omega)] | (rw [if_neg (by omega)]; first | rw [if_pos (by omega)] | rw [if_neg (by omega)])) ?_
        have hGr : 0 ≤ mkGr (mPts M v m) ∧ mkGr (mPts M v m) ≤ 2 := by unfold mkGr; (repeat' split) <;> omega
        refine z_mst (pc' := 181) X (r := 1) (by decide) (show 0 ≤ _ ∧ _ < (321 : Int) by omega) (by first | assumption | omega) dX8_makes_180 rfl (fun hR180 => ?_)
        refine z_aload_n (pc' := 182) X dX8_makes_181 rfl rfl ?_
        refine z_mget (pc' := 185) X 0 rfl (by decide) q2063 rfl dX8_makes_182 rfl ?_
        refine z_iload (pc' := 187) X dX8_makes_185 rfl rfl ?_
        refine z_iconst (pc' := 188) X dX8_makes_187 rfl ?_
        refine z_iadd (pc' := 189) X dX8_makes_188 rfl ?_
        refine z_iload (pc' := 191) X dX8_makes_189 rfl rfl ?_
        refine z_mst (pc' := 192) X (r := 1) (by decide) (show 0 ≤ _ ∧ _ < (321 : Int) by omega) (by first | assumption | omega) dX8_makes_191 rfl (fun hR191 => ?_)
        refine z_aload_n (pc' := 193) X dX8_makes_192 rfl rfl ?_
        refine z_mget (pc' := 196) X 0 rfl (by decide) q2063 rfl dX8_makes_193 rfl ?_
        refine z_iload (pc' := 198) X dX8_makes_196 rfl rfl ?_
        refine z_iconst (pc' := 199) X dX8_makes_198 rfl ?_
        refine z_iadd (pc' := 200) X dX8_makes_199 rfl ?_
        refine z_iconst (pc' := 201) X dX8_makes_200 rfl ?_
        refine z_mst (pc' := 202) X (r := 1) (by decide) (show 0 ≤ _ ∧ _ < (321 : Int) by omega) (by first | assumption | omega) dX8_makes_201 rfl (fun hR201 => ?_)
        refine z_aload_n (pc' := 203) X dX8_makes_202 rfl rfl ?_
        refine z_mget (pc' := 206) X 0 rfl (by decide) q2063 rfl dX8_makes_203 rfl ?_
        refine z_iconst (pc' := 207) X dX8_makes_206 rfl ?_
        refine z_dup2 (pc' := 208) X rfl rfl dX8_makes_207 rfl ?_
        refine z_mld (pc' := 209) X (r := 1) (by decide) (show 0 ≤ _ ∧ _ < (321 : Int) by omega) dX8_makes_208 rfl (fun hv208 => ?_)
        rw [mset_k (by omega)]
        rw [mset_k (by omega)]
        rw [mset_k (by omega)]
        rw [mset_k (by omega)]
        rw [mset_k (by omega)]
        rw [mset_k (by omega)]
        rw [mset_k (by omega)]
        rw [mset_k (by omega)]
        repeat rw [mset_k (by omega)] at hv208
        refine z_iconst (pc' := 210) X dX8_makes_209 rfl ?_
        refine z_iadd (pc' := 211) X dX8_makes_210 rfl ?_
        refine z_mst (pc' := 212) X (r := 1) (by decide) (show 0 ≤ _ ∧ _ < (321 : Int) by omega) (by first | assumption | omega) dX8_makes_211 rfl (fun hR211 => ?_)
        refine z_aload_n (pc' := 213) X dX8_makes_212 rfl rfl ?_
        refine z_iload_n (pc' := 214) X dX8_makes_213 rfl rfl ?_
        refine z_V_fun1 (pc' := 217) X rfl Y_X8_units q2220 dX8_makes_214 rfl (by decide) (Nat.le_refl _) (Nat.le_refl _) (Nat.le_of_ble_eq_true rfl) (c_X8_units _ _ _ _ _ (by first | assumption | omega)) (fun r214 hr214 hp214 => ?_)
        subst hp214
        unfold mU at hr214
        repeat rw [mset_k (by omega)] at hr214
        rw [mset_s] at hr214
        refine ZP.top (a' := mU M v - mkSome M v m n * mZ (m % 3)) (by (unfold mU; repeat rw [mset_k (by omega)]); rw [mset_s]) ?_
        refine z_if_ne (tgt := 225) (pc' := 220) X (by first | assumption | omega) dX8_makes_217 rfl (by decide) (fun c217 => ?_) (fun c217 => ?_)
        · refine z_iload (pc' := 227) X dX8_makes_225 rfl rfl ?_
          refine z_ireturn X dX8_makes_227 (Nat.le_refl _) (Nat.le_refl _) (fun _ hh => ⟨_, hh, _, rfl, ?_, ?_⟩)
          · first | assumption | omega
          · first | exact ⟨rfl, mk_end hS hv hm h5 rfl (Or.inl ⟨by omega, rfl⟩) (Or.inl ⟨by omega, rfl⟩)⟩ | exact ⟨rfl, mk_end hS hv hm h5 rfl (Or.inl ⟨by omega, rfl⟩) (Or.inr ⟨by omega, rfl⟩)⟩ | exact ⟨rfl, mk_end hS hv hm h5 rfl (Or.inr ⟨by omega, rfl⟩) (Or.inl ⟨by omega, rfl⟩)⟩ | exact ⟨rfl, mk_end hS hv hm h5 rfl (Or.inr ⟨by omega, rfl⟩) (Or.inr ⟨by omega, rfl⟩)⟩
        · refine z_aload_n (pc' := 221) X dX8_makes_220 rfl rfl ?_
          refine z_iload_n (pc' := 222) X dX8_makes_221 rfl rfl ?_
          refine z_V_void1 (pc' := 225) X rfl Y_X8_isEmptied q2262 dX8_makes_222 rfl (by decide) (Nat.le_refl _) (Nat.le_refl _) (Nat.le_of_ble_eq_true rfl) (c_X8_isEmptied _ _ _ _ _ (by first | assumption | omega)) (fun M222 hp222 hR222 => ?_)
          subst hp222
          refine z_iload (pc' := 227) X dX8_makes_225 rfl rfl ?_
          refine z_ireturn X dX8_makes_227 (Nat.le_refl _) (Nat.le_refl _) (fun _ hh => ⟨_, hh, _, rfl, ?_, ?_⟩)
          · first | assumption | omega
          · first | exact ⟨rfl, mk_end hS hv hm h5 rfl (Or.inl ⟨by omega, rfl⟩) (Or.inl ⟨by omega, rfl⟩)⟩ | exact ⟨rfl, mk_end hS hv hm h5 rfl (Or.inl ⟨by omega, rfl⟩) (Or.inr ⟨by omega, rfl⟩)⟩ | exact ⟨rfl, mk_end hS hv hm h5 rfl (Or.inr ⟨by omega, rfl⟩) (Or.inl ⟨by omega, rfl⟩)⟩ | exact ⟨rfl, mk_end hS hv hm h5 rfl (Or.inr ⟨by omega, rfl⟩) (Or.inr ⟨by omega, rfl⟩)⟩
      · refine z_iconst (pc' := 176) X dX8_makes_175 rfl ?_
        refine z_goto (tgt := 180) X dX8_makes_176 (by decide) ?_
        refine ZP.top (a' := mkGr (mPts M v m)) (by unfold mkGr; first | rw [if_pos (by omega)] | (rw [if_neg (by omega)]; first | rw [if_pos (by omega)] | rw [if_neg (by omega)])) ?_
        have hGr : 0 ≤ mkGr (mPts M v m) ∧ mkGr (mPts M v m) ≤ 2 := by unfold mkGr; (repeat' split) <;> omega
        refine z_mst (pc' := 181) X (r := 1) (by decide) (show 0 ≤ _ ∧ _ < (321 : Int) by omega) (by first | assumption | omega) dX8_makes_180 rfl (fun hR180 => ?_)
        refine z_aload_n (pc' := 182) X dX8_makes_181 rfl rfl ?_
        refine z_mget (pc' := 185) X 0 rfl (by decide) q2063 rfl dX8_makes_182 rfl ?_
        refine z_iload (pc' := 187) X dX8_makes_185 rfl rfl ?_
        refine z_iconst (pc' := 188) X dX8_makes_187 rfl ?_
        refine z_iadd (pc' := 189) X dX8_makes_188 rfl ?_
        refine z_iload (pc' := 191) X dX8_makes_189 rfl rfl ?_
        refine z_mst (pc' := 192) X (r := 1) (by decide) (show 0 ≤ _ ∧ _ < (321 : Int) by omega) (by first | assumption | omega) dX8_makes_191 rfl (fun hR191 => ?_)
        refine z_aload_n (pc' := 193) X dX8_makes_192 rfl rfl ?_
        refine z_mget (pc' := 196) X 0 rfl (by decide) q2063 rfl dX8_makes_193 rfl ?_
        refine z_iload (pc' := 198) X dX8_makes_196 rfl rfl ?_
        refine z_iconst (pc' := 199) X dX8_makes_198 rfl ?_
        refine z_iadd (pc' := 200) X dX8_makes_199 rfl ?_
        refine z_iconst (pc' := 201) X dX8_makes_200 rfl ?_
        refine z_mst (pc' := 202) X (r := 1) (by decide) (show 0 ≤ _ ∧ _ < (321 : Int) by omega) (by first | assumption | omega) dX8_makes_201 rfl (fun hR201 => ?_)
        refine z_aload_n (pc' := 203) X dX8_makes_202 rfl rfl ?_
        refine z_mget (pc' := 206) X 0 rfl (by decide) q2063 rfl dX8_makes_203 rfl ?_
        refine z_iconst (pc' := 207) X dX8_makes_206 rfl ?_
        refine z_dup2 (pc' := 208) X rfl rfl dX8_makes_207 rfl ?_
        refine z_mld (pc' := 209) X (r := 1) (by decide) (show 0 ≤ _ ∧ _ < (321 : Int) by omega) dX8_makes_208 rfl (fun hv208 => ?_)
        rw [mset_k (by omega)]
        rw [mset_k (by omega)]
        rw [mset_k (by omega)]
        rw [mset_k (by omega)]
        rw [mset_k (by omega)]
        rw [mset_k (by omega)]
        rw [mset_k (by omega)]
        rw [mset_k (by omega)]
        repeat rw [mset_k (by omega)] at hv208
        refine z_iconst (pc' := 210) X dX8_makes_209 rfl ?_
        refine z_iadd (pc' := 211) X dX8_makes_210 rfl ?_
        refine z_mst (pc' := 212) X (r := 1) (by decide) (show 0 ≤ _ ∧ _ < (321 : Int) by omega) (by first | assumption | omega) dX8_makes_211 rfl (fun hR211 => ?_)
        refine z_aload_n (pc' := 213) X dX8_makes_212 rfl rfl ?_
        refine z_iload_n (pc' := 214) X dX8_makes_213 rfl rfl ?_
        refine z_V_fun1 (pc' := 217) X rfl Y_X8_units q2220 dX8_makes_214 rfl (by decide) (Nat.le_refl _) (Nat.le_refl _) (Nat.le_of_ble_eq_true rfl) (c_X8_units _ _ _ _ _ (by first | assumption | omega)) (fun r214 hr214 hp214 => ?_)
        subst hp214
        unfold mU at hr214
        repeat rw [mset_k (by omega)] at hr214
        rw [mset_s] at hr214
        refine ZP.top (a' := mU M v - mkSome M v m n * mZ (m % 3)) (by (unfold mU; repeat rw [mset_k (by omega)]); rw [mset_s]) ?_
        refine z_if_ne (tgt := 225) (pc' := 220) X (by first | assumption | omega) dX8_makes_217 rfl (by decide) (fun c217 => ?_) (fun c217 => ?_)
        · refine z_iload (pc' := 227) X dX8_makes_225 rfl rfl ?_
          refine z_ireturn X dX8_makes_227 (Nat.le_refl _) (Nat.le_refl _) (fun _ hh => ⟨_, hh, _, rfl, ?_, ?_⟩)
          · first | assumption | omega
          · first | exact ⟨rfl, mk_end hS hv hm h5 rfl (Or.inl ⟨by omega, rfl⟩) (Or.inl ⟨by omega, rfl⟩)⟩ | exact ⟨rfl, mk_end hS hv hm h5 rfl (Or.inl ⟨by omega, rfl⟩) (Or.inr ⟨by omega, rfl⟩)⟩ | exact ⟨rfl, mk_end hS hv hm h5 rfl (Or.inr ⟨by omega, rfl⟩) (Or.inl ⟨by omega, rfl⟩)⟩ | exact ⟨rfl, mk_end hS hv hm h5 rfl (Or.inr ⟨by omega, rfl⟩) (Or.inr ⟨by omega, rfl⟩)⟩
        · refine z_aload_n (pc' := 221) X dX8_makes_220 rfl rfl ?_
          refine z_iload_n (pc' := 222) X dX8_makes_221 rfl rfl ?_
          refine z_V_void1 (pc' := 225) X rfl Y_X8_isEmptied q2262 dX8_makes_222 rfl (by decide) (Nat.le_refl _) (Nat.le_refl _) (Nat.le_of_ble_eq_true rfl) (c_X8_isEmptied _ _ _ _ _ (by first | assumption | omega)) (fun M222 hp222 hR222 => ?_)
          subst hp222
          refine z_iload (pc' := 227) X dX8_makes_225 rfl rfl ?_
          refine z_ireturn X dX8_makes_227 (Nat.le_refl _) (Nat.le_refl _) (fun _ hh => ⟨_, hh, _, rfl, ?_, ?_⟩)
          · first | assumption | omega
          · first | exact ⟨rfl, mk_end hS hv hm h5 rfl (Or.inl ⟨by omega, rfl⟩) (Or.inl ⟨by omega, rfl⟩)⟩ | exact ⟨rfl, mk_end hS hv hm h5 rfl (Or.inl ⟨by omega, rfl⟩) (Or.inr ⟨by omega, rfl⟩)⟩ | exact ⟨rfl, mk_end hS hv hm h5 rfl (Or.inr ⟨by omega, rfl⟩) (Or.inl ⟨by omega, rfl⟩)⟩ | exact ⟨rfl, mk_end hS hv hm h5 rfl (Or.inr ⟨by omega, rfl⟩) (Or.inr ⟨by omega, rfl⟩)⟩
    · refine z_iconst (pc' := 165) X dX8_makes_164 rfl ?_
      refine z_goto (tgt := 180) X dX8_makes_165 (by decide) ?_
      refine ZP.top (a' := mkGr (mPts M v m)) (by unfold mkGr; first | rw [if_pos (by omega)] | (rw [if_neg (by omega)]; first | rw [if_pos (by omega)] | rw [if_neg (by omega)])) ?_
      have hGr : 0 ≤ mkGr (mPts M v m) ∧ mkGr (mPts M v m) ≤ 2 := by unfold mkGr; (repeat' split) <;> omega
      refine z_mst (pc' := 181) X (r := 1) (by decide) (show 0 ≤ _ ∧ _ < (321 : Int) by omega) (by first | assumption | omega) dX8_makes_180 rfl (fun hR180 => ?_)
      refine z_aload_n (pc' := 182) X dX8_makes_181 rfl rfl ?_
      refine z_mget (pc' := 185) X 0 rfl (by decide) q2063 rfl dX8_makes_182 rfl ?_
      refine z_iload (pc' := 187) X dX8_makes_185 rfl rfl ?_
      refine z_iconst (pc' := 188) X dX8_makes_187 rfl ?_
      refine z_iadd (pc' := 189) X dX8_makes_188 rfl ?_
      refine z_iload (pc' := 191) X dX8_makes_189 rfl rfl ?_
      refine z_mst (pc' := 192) X (r := 1) (by decide) (show 0 ≤ _ ∧ _ < (321 : Int) by omega) (by first | assumption | omega) dX8_makes_191 rfl (fun hR191 => ?_)
      refine z_aload_n (pc' := 193) X dX8_makes_192 rfl rfl ?_
      refine z_mget (pc' := 196) X 0 rfl (by decide) q2063 rfl dX8_makes_193 rfl ?_
      refine z_iload (pc' := 198) X dX8_makes_196 rfl rfl ?_
      refine z_iconst (pc' := 199) X dX8_makes_198 rfl ?_
      refine z_iadd (pc' := 200) X dX8_makes_199 rfl ?_
      refine z_iconst (pc' := 201) X dX8_makes_200 rfl ?_
      refine z_mst (pc' := 202) X (r := 1) (by decide) (show 0 ≤ _ ∧ _ < (321 : Int) by omega) (by first | assumption | omega) dX8_makes_201 rfl (fun hR201 => ?_)
      refine z_aload_n (pc' := 203) X dX8_makes_202 rfl rfl ?_
      refine z_mget (pc' := 206) X 0 rfl (by decide) q2063 rfl dX8_makes_203 rfl ?_
      refine z_iconst (pc' := 207) X dX8_makes_206 rfl ?_
      refine z_dup2 (pc' := 208) X rfl rfl dX8_makes_207 rfl ?_
      refine z_mld (pc' := 209) X (r := 1) (by decide) (show 0 ≤ _ ∧ _ < (321 : Int) by omega) dX8_makes_208 rfl (fun hv208 => ?_)
      rw [mset_k (by omega)]
      rw [mset_k (by omega)]
      rw [mset_k (by omega)]
      rw [mset_k (by omega)]
      rw [mset_k (by omega)]
      rw [mset_k (by omega)]
      rw [mset_k (by omega)]
      rw [mset_k (by omega)]
      repeat rw [mset_k (by omega)] at hv208
      refine z_iconst (pc' := 210) X dX8_makes_209 rfl ?_
      refine z_iadd (pc' := 211) X dX8_makes_210 rfl ?_
      refine z_mst (pc' := 212) X (r := 1) (by decide) (show 0 ≤ _ ∧ _ < (321 : Int) by omega) (by first | assumption | omega) dX8_makes_211 rfl (fun hR211 => ?_)
      refine z_aload_n (pc' := 213) X dX8_makes_212 rfl rfl ?_
      refine z_iload_n (pc' := 214) X dX8_makes_213 rfl rfl ?_
      refine z_V_fun1 (pc' := 217) X rfl Y_X8_units q2220 dX8_makes_214 rfl (by decide) (Nat.le_refl _) (Nat.le_refl _) (Nat.le_of_ble_eq_true rfl) (c_X8_units _ _ _ _ _ (by first | assumption | omega)) (fun r214 hr214 hp214 => ?_)
      subst hp214
      unfold mU at hr214
      repeat rw [mset_k (by omega)] at hr214
      rw [mset_s] at hr214
      refine ZP.top (a' := mU M v - mkSome M v m n * mZ (m % 3)) (by (unfold mU; repeat rw [mset_k (by omega)]); rw [mset_s]) ?_
      refine z_if_ne (tgt := 225) (pc' := 220) X (by first | assumption | omega) dX8_makes_217 rfl (by decide) (fun c217 => ?_) (fun c217 => ?_)
      · refine z_iload (pc' := 227) X dX8_makes_225 rfl rfl ?_
        refine z_ireturn X dX8_makes_227 (Nat.le_refl _) (Nat.le_refl _) (fun _ hh => ⟨_, hh, _, rfl, ?_, ?_⟩)
        · first | assumption | omega
        · first | exact ⟨rfl, mk_end hS hv hm h5 rfl (Or.inl ⟨by omega, rfl⟩) (Or.inl ⟨by omega, rfl⟩)⟩ | exact ⟨rfl, mk_end hS hv hm h5 rfl (Or.inl ⟨by omega, rfl⟩) (Or.inr ⟨by omega, rfl⟩)⟩ | exact ⟨rfl, mk_end hS hv hm h5 rfl (Or.inr ⟨by omega, rfl⟩) (Or.inl ⟨by omega, rfl⟩)⟩ | exact ⟨rfl, mk_end hS hv hm h5 rfl (Or.inr ⟨by omega, rfl⟩) (Or.inr ⟨by omega, rfl⟩)⟩
      · refine z_aload_n (pc' := 221) X dX8_makes_220 rfl rfl ?_
        refine z_iload_n (pc' := 222) X dX8_makes_221 rfl rfl ?_
        refine z_V_void1 (pc' := 225) X rfl Y_X8_isEmptied q2262 dX8_makes_222 rfl (by decide) (Nat.le_refl _) (Nat.le_refl _) (Nat.le_of_ble_eq_true rfl) (c_X8_isEmptied _ _ _ _ _ (by first | assumption | omega)) (fun M222 hp222 hR222 => ?_)
        subst hp222
        refine z_iload (pc' := 227) X dX8_makes_225 rfl rfl ?_
        refine z_ireturn X dX8_makes_227 (Nat.le_refl _) (Nat.le_refl _) (fun _ hh => ⟨_, hh, _, rfl, ?_, ?_⟩)
        · first | assumption | omega
        · first | exact ⟨rfl, mk_end hS hv hm h5 rfl (Or.inl ⟨by omega, rfl⟩) (Or.inl ⟨by omega, rfl⟩)⟩ | exact ⟨rfl, mk_end hS hv hm h5 rfl (Or.inl ⟨by omega, rfl⟩) (Or.inr ⟨by omega, rfl⟩)⟩ | exact ⟨rfl, mk_end hS hv hm h5 rfl (Or.inr ⟨by omega, rfl⟩) (Or.inl ⟨by omega, rfl⟩)⟩ | exact ⟨rfl, mk_end hS hv hm h5 rfl (Or.inr ⟨by omega, rfl⟩) (Or.inr ⟨by omega, rfl⟩)⟩
end M9

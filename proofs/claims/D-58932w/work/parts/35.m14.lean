/-! THE MODEL: marks, reach, forecasts, undo, snapshots -/
section M14
def tak (M : MM) (m w k : Int) : Prop := ∃ j, 0 ≤ j ∧ j < k ∧ j ≠ m ∧ M 1 (126 + 3 * j) = w
theorem tak_s {M : MM} {m w k : Int} (h : 0 ≤ k) : tak M m w (k + 1) ↔ tak M m w k ∨ (k ≠ m ∧ M 1 (126 + 3 * k) = w) := by
  constructor
  · rintro ⟨j, a, b, c⟩
    by_cases e : j = k
    · subst e; exact Or.inr c
    · exact Or.inl ⟨j, a, by omega, c⟩
  · rintro (⟨j, a, b, c⟩ | c)
    · exact ⟨j, a, by omega, c⟩
    · exact ⟨k, h, by omega, c⟩
theorem tak_0 {M : MM} {m w : Int} : ¬ tak M m w 0 := fun ⟨_, a, b, _⟩ => by omega
def gMrk (S : St) (m w : Int) : Int := if ¬ (0 ≤ m ∧ m ≤ 4) then 1 else if ¬ (0 ≤ w ∧ w ≤ 9) then 2 else if (0 ≠ m ∧ S.1 126 = w) ∨ (1 ≠ m ∧ S.1 129 = w) ∨ (2 ≠ m ∧ S.1 132 = w) ∨ (3 ≠ m ∧ S.1 135 = w) ∨ (4 ≠ m ∧ S.1 138 = w) then 3 else 0
theorem tak_5 {M : MM} {S : St} (h : sRep (M 1) S) {m w : Int} : tak M m w 5 ↔ ((0 ≠ m ∧ S.1 126 = w) ∨ (1 ≠ m ∧ S.1 129 = w) ∨ (2 ≠ m ∧ S.1 132 = w) ∨ (3 ≠ m ∧ S.1 135 = w) ∨ (4 ≠ m ∧ S.1 138 = w)) := by
  rw [← h.1 126 (by unfold scI; omega), ← h.1 129 (by unfold scI; omega), ← h.1 132 (by unfold scI; omega), ← h.1 135 (by unfold scI; omega), ← h.1 138 (by unfold scI; omega)]
  constructor
  · rintro ⟨j, a, b, c, d⟩
    obtain rfl | rfl | rfl | rfl | rfl : j = 0 ∨ j = 1 ∨ j = 2 ∨ j = 3 ∨ j = 4 := by omega
    · exact Or.inl ⟨c, d⟩
    · exact Or.inr (Or.inl ⟨c, d⟩)
    · exact Or.inr (Or.inr (Or.inl ⟨c, d⟩))
    · exact Or.inr (Or.inr (Or.inr (Or.inl ⟨c, d⟩)))
    · exact Or.inr (Or.inr (Or.inr (Or.inr ⟨c, d⟩)))
  · rintro (c | c | c | c | c)
    · exact ⟨0, by omega, by omega, c⟩
    · exact ⟨1, by omega, by omega, c⟩
    · exact ⟨2, by omega, by omega, c⟩
    · exact ⟨3, by omega, by omega, c⟩
    · exact ⟨4, by omega, by omega, c⟩
def mrkS (m w : Int) (S : St) : St := (iup S.1 (126 + 3 * m) w, S.2)
theorem Y_X8_isTaken : zYV yX8_isTaken cX8_isTaken 5 (some .boolean) 2 := ⟨⟨q2275, qs65, q132, q2276⟩, by decide +kernel, by decide⟩
set_option maxRecDepth 100000 in
theorem c_X8_isTaken (l : Launch) (g : zG) (ma : Nat → Nat) (M : MM) (m w : Int) (hm : 0 ≤ m ∧ m < 5) (hw : rng w) : mFun l yX8_isTaken cX8_isTaken 5 (some .boolean) 1 [vR (ma 0), vI m, vI w] g ma M (fun r => (r = 1 ∧ tak M m w 5) ∨ (r = 0 ∧ ¬ tak M m w 5)) := by
  refine mFun.mk (L0 := [some (vR (ma 0)), some (vI m), some (vI w), none, none]) (by decide) rfl (Nat.le_of_ble_eq_true rfl) rfl (fun C h hg hl hR X => ?_)
  subst hg hl
  refine z_iconst (pc' := 1) X dX8_isTaken_0 rfl ?_
  refine z_istore_n (pc' := 2) X dX8_isTaken_1 rfl (by decide) rfl ?_
  dsimp only [List.set]
  refine z_iconst (pc' := 3) X dX8_isTaken_2 rfl ?_
  refine z_istore (pc' := 5) X dX8_isTaken_3 rfl (by decide) rfl ?_
  dsimp only [List.set]
  have loop5 : ∀ (N : Nat) (t k : Int), (0 ≤ k ∧ k ≤ 5) → ((t = 1 ∧ tak M m w k) ∨ (t = 0 ∧ ¬ tak M m w k)) → (5 - k).toNat < N → ZP C 5 (mF ma h (M)) 0 0 [some (vR (ma 0)), some (vI m), some (vI w), some (vI t), some (vI k)] 5 [] := by
    intro N
    induction N with
    | zero => intro t k hkk ht hN; exact absurd hN (Nat.not_lt_zero _)
    | succ N ih5 =>
      intro t k hkk ht hN
      refine ZP.fact (P := mR (M)) (fun _ h => h.1.2.2.2) (fun hR5 => ?_)
      have htr : rng t := by omega
      refine z_iload (pc' := 7) X dX8_isTaken_5 rfl rfl ?_
      refine z_iconst (pc' := 8) X dX8_isTaken_7 rfl ?_
      refine z_icmp_ge (tgt := 49) (pc' := 11) X (by first | assumption | omega) (by first | assumption | omega) dX8_isTaken_8 rfl (by decide) (fun c8 => ?_) (fun c8 => ?_)
      · refine z_iload_n (pc' := 50) X dX8_isTaken_49 rfl rfl ?_
        refine z_zreturn X dX8_isTaken_50 (by first | exact nar_0 | exact nar_1 | exact nar_b (by omega)) (Nat.le_refl _) (Nat.le_refl _) (fun _ hh => ⟨hh, _, rfl, ?_, ?_⟩)
        · first | assumption | omega
        · obtain rfl : k = 5 := by omega
          exact ht
      · refine z_iload_n (pc' := 12) X dX8_isTaken_11 rfl rfl ?_
        refine z_if_ne (tgt := 37) (pc' := 15) X (by first | assumption | omega) dX8_isTaken_12 rfl (by decide) (fun c12 => ?_) (fun c12 => ?_)
        · refine z_iconst (pc' := 38) X dX8_isTaken_37 rfl ?_
          refine z_goto (tgt := 42) X dX8_isTaken_38 (by decide) ?_
          refine z_istore_n (pc' := 43) X dX8_isTaken_42 rfl (by decide) rfl ?_
          dsimp only [List.set]
          refine z_iinc (pc' := 46) X dX8_isTaken_43 rfl (by decide) rfl rfl ?_
          dsimp only [List.set]
          refine z_goto (tgt := 5) X dX8_isTaken_46 (by decide) ?_
          refine ZP.wk (L' := [some (vR (ma 0)), some (vI m), some (vI w), some (vI _), some (vI _)]) (And.intro rfl (And.intro rfl (And.intro rfl (And.intro rfl (And.intro rfl (trivial)))))) ?_
          exact ih5 _ _ (by omega) (by first | exact Or.inl ⟨rfl, (tak_s hkk.1).mpr (Or.inl (ht.elim (fun q => q.2) (fun q => absurd q.1 c12)))⟩ | exact Or.inl ⟨rfl, (tak_s hkk.1).mpr (Or.inr ⟨c18, c34⟩)⟩ | exact Or.inr ⟨rfl, fun q => ((tak_s hkk.1).mp q).elim (fun x => ht.elim (fun y => absurd (y.1.symm.trans c12) (by decide)) (fun y => y.2 x)) (fun x => x.1 c18)⟩ | exact Or.inr ⟨rfl, fun q => ((tak_s hkk.1).mp q).elim (fun x => ht.elim (fun y => absurd (y.1.symm.trans c12) (by decide)) (fun y => y.2 x)) (fun x => c34 x.2)⟩) (by omega)
        · refine z_iload (pc' := 17) X dX8_isTaken_15 rfl rfl ?_
          refine z_iload_n (pc' := 18) X dX8_isTaken_17 rfl rfl ?_
          refine z_icmp_eq (tgt := 41) (pc' := 21) X (by first | assumption | omega) (by first | assumption | omega) dX8_isTaken_18 rfl (by decide) (fun c18 => ?_) (fun c18 => ?_)
          · refine z_iconst (pc' := 42) X dX8_isTaken_41 rfl ?_
            refine z_istore_n (pc' := 43) X dX8_isTaken_42 rfl (by decide) rfl ?_
            dsimp only [List.set]
            refine z_iinc (pc' := 46) X dX8_isTaken_43 rfl (by decide) rfl rfl ?_
            dsimp only [List.set]
            refine z_goto (tgt := 5) X dX8_isTaken_46 (by decide) ?_
            refine ZP.wk (L' := [some (vR (ma 0)), some (vI m), some (vI w), some (vI _), some (vI _)]) (And.intro rfl (And.intro rfl (And.intro rfl (And.intro rfl (And.intro rfl (trivial)))))) ?_
            exact ih5 _ _ (by omega) (by first | exact Or.inl ⟨rfl, (tak_s hkk.1).mpr (Or.inl (ht.elim (fun q => q.2) (fun q => absurd q.1 c12)))⟩ | exact Or.inl ⟨rfl, (tak_s hkk.1).mpr (Or.inr ⟨c18, c34⟩)⟩ | exact Or.inr ⟨rfl, fun q => ((tak_s hkk.1).mp q).elim (fun x => ht.elim (fun y => absurd (y.1.symm.trans c12) (by decide)) (fun y => y.2 x)) (fun x => x.1 c18)⟩ | exact Or.inr ⟨rfl, fun q => ((tak_s hkk.1).mp q).elim (fun x => ht.elim (fun y => absurd (y.1.symm.trans c12) (by decide)) (fun y => y.2 x)) (fun x => c34 x.2)⟩) (by omega)
          · refine z_aload_n (pc' := 22) X dX8_isTaken_21 rfl rfl ?_
            refine z_mget (pc' := 25) X 0 rfl (by decide) q2063 rfl dX8_isTaken_22 rfl ?_
            refine z_bipush (pc' := 27) X dX8_isTaken_25 rfl (by decide) ?_
            refine z_iconst (pc' := 28) X dX8_isTaken_27 rfl ?_
            refine z_iload (pc' := 30) X dX8_isTaken_28 rfl rfl ?_
            refine z_imul (pc' := 31) X dX8_isTaken_30 rfl ?_
            refine z_iadd (pc' := 32) X dX8_isTaken_31 rfl ?_
            refine z_mld (pc' := 33) X (r := 1) (by decide) (show 0 ≤ _ ∧ _ < (321 : Int) by omega) dX8_isTaken_32 rfl (fun hv32 => ?_)
            refine z_iload_n (pc' := 34) X dX8_isTaken_33 rfl rfl ?_
            refine z_icmp_ne (tgt := 41) (pc' := 37) X (by first | assumption | omega) (by first | assumption | omega) dX8_isTaken_34 rfl (by decide) (fun c34 => ?_) (fun c34 => ?_)
            · refine z_iconst (pc' := 42) X dX8_isTaken_41 rfl ?_
              refine z_istore_n (pc' := 43) X dX8_isTaken_42 rfl (by decide) rfl ?_
              dsimp only [List.set]
              refine z_iinc (pc' := 46) X dX8_isTaken_43 rfl (by decide) rfl rfl ?_
              dsimp only [List.set]
              refine z_goto (tgt := 5) X dX8_isTaken_46 (by decide) ?_
              refine ZP.wk (L' := [some (vR (ma 0)), some (vI m), some (vI w), some (vI _), some (vI _)]) (And.intro rfl (And.intro rfl (And.intro rfl (And.intro rfl (And.intro rfl (trivial)))))) ?_
              exact ih5 _ _ (by omega) (by first | exact Or.inl ⟨rfl, (tak_s hkk.1).mpr (Or.inl (ht.elim (fun q => q.2) (fun q => absurd q.1 c12)))⟩ | exact Or.inl ⟨rfl, (tak_s hkk.1).mpr (Or.inr ⟨c18, c34⟩)⟩ | exact Or.inr ⟨rfl, fun q => ((tak_s hkk.1).mp q).elim (fun x => ht.elim (fun y => absurd (y.1.symm.trans c12) (by decide)) (fun y => y.2 x)) (fun x => x.1 c18)⟩ | exact Or.inr ⟨rfl, fun q => ((tak_s hkk.1).mp q).elim (fun x => ht.elim (fun y => absurd (y.1.symm.trans c12) (by decide)) (fun y => y.2 x)) (fun x => c34 x.2)⟩) (by omega)
            · refine z_iconst (pc' := 38) X dX8_isTaken_37 rfl ?_
              refine z_goto (tgt := 42) X dX8_isTaken_38 (by decide) ?_
              refine z_istore_n (pc' := 43) X dX8_isTaken_42 rfl (by decide) rfl ?_
              dsimp only [List.set]
              refine z_iinc (pc' := 46) X dX8_isTaken_43 rfl (by decide) rfl rfl ?_
              dsimp only [List.set]
              refine z_goto (tgt := 5) X dX8_isTaken_46 (by decide) ?_
              refine ZP.wk (L' := [some (vR (ma 0)), some (vI m), some (vI w), some (vI _), some (vI _)]) (And.intro rfl (And.intro rfl (And.intro rfl (And.intro rfl (And.intro rfl (trivial)))))) ?_
              exact ih5 _ _ (by omega) (by first | exact Or.inl ⟨rfl, (tak_s hkk.1).mpr (Or.inl (ht.elim (fun q => q.2) (fun q => absurd q.1 c12)))⟩ | exact Or.inl ⟨rfl, (tak_s hkk.1).mpr (Or.inr ⟨c18, c34⟩)⟩ | exact Or.inr ⟨rfl, fun q => ((tak_s hkk.1).mp q).elim (fun x => ht.elim (fun y => absurd (y.1.symm.trans c12) (by decide)) (fun y => y.2 x)) (fun x => x.1 c18)⟩ | exact Or.inr ⟨rfl, fun q => ((tak_s hkk.1).mp q).elim (fun x => ht.elim (fun y => absurd (y.1.symm.trans c12) (by decide)) (fun y => y.2 x)) (fun x => c34 x.2)⟩) (by omega)
  refine ZP.wk (L' := [some (vR (ma 0)), some (vI m), some (vI w), some (vI _), some (vI _)]) (And.intro rfl (And.intro rfl (And.intro rfl (And.intro rfl (And.intro rfl (trivial)))))) ?_
  exact loop5 _ _ _ (by omega) (by exact Or.inr ⟨rfl, tak_0⟩) (Nat.lt_succ_self _)
theorem Y_X8_setMark : zYV yX8_setMark cX8_setMark 4 (some .int) 2 := ⟨⟨q2267, q2268, q132, q2269⟩, by decide +kernel, by decide⟩
set_option maxRecDepth 100000 in
theorem c_X8_setMark (l : Launch) (g : zG) (ma : Nat → Nat) (M : MM) (m w : Int) (A : Ab) (P Q : Int) (hm : rng m) (hw : rng w) (hA : mRep M A) (hk : okA P Q A) (hP : P ≤ 900000) (hQ : Q ≤ 9000000) : mInt l yX8_setMark cX8_setMark 4 (some .int) 12 [vR (ma 0), vI m, vI w] g ma M (fun r M' => outP (gMrk A.1 m w) A (A.1.1 (126 + 3 * m)) (svA A (mrkS m w A.1)) r M') := by
  refine mInt.mk (L0 := [some (vR (ma 0)), some (vI m), some (vI w), none]) (by decide) rfl (Nat.le_of_ble_eq_true rfl) rfl (fun C h hg hl hR X => ?_)
  subst hg hl
  obtain ⟨hS, hN, hH, hT⟩ := id hA
  obtain ⟨hkS, -, -, -⟩ := id hk
  obtain ⟨⟨kc1, -, kc3, kc4, kc5⟩, kb, kp, kq⟩ := id hkS
  have hI := hk.I hA hP hQ
  have hn := mI_n hI
  have hh0 : 0 ≤ M 0 0 ∧ M 0 0 ≤ 5 := ⟨by rw [hH.1]; omega, by rw [hH.1]; have := hH.2.1; omega⟩
  have s0 := sc_at hA (j := 0) (by unfold scI; omega)
  have s1 := sc_at hA (j := 1) (by unfold scI; omega)
  refine z_aload_n (pc' := 1) X dX8_setMark_0 rfl rfl ?_
  refine z_iload_n (pc' := 2) X dX8_setMark_1 rfl rfl ?_
  refine z_S_fun1 (pc' := 5) X Y_X8_isMould q2270 dX8_setMark_2 rfl (by decide) (Nat.le_refl _) (Nat.le_refl _) (Nat.le_of_ble_eq_true rfl) (fun h _ => c_X8_isMould _ _ _ _ (by first | assumption | omega)) (fun r2 hr2 hp2 => ?_)
  refine z_if_ne (tgt := 12) (pc' := 8) X (by first | assumption | omega) dX8_setMark_5 rfl (by decide) (fun c5 => ?_) (fun c5 => ?_)
  · refine z_iload_n (pc' := 13) X dX8_setMark_12 rfl rfl ?_
    refine z_iconst (pc' := 14) X dX8_setMark_13 rfl ?_
    refine z_bipush (pc' := 16) X dX8_setMark_14 rfl (by decide) ?_
    refine z_S_fun3 (pc' := 19) X Y_X8_in q2123 dX8_setMark_16 rfl (by decide) (Nat.le_refl _) (Nat.le_refl _) (Nat.le_of_ble_eq_true rfl) (fun h _ => c_X8_in _ _ _ _ _ _ (by first | assumption | omega) (by first | assumption | omega) (by first | assumption | omega)) (fun r16 hr16 hp16 => ?_)
    refine z_if_ne (tgt := 26) (pc' := 22) X (by first | assumption | omega) dX8_setMark_19 rfl (by decide) (fun c19 => ?_) (fun c19 => ?_)
    · refine z_aload_n (pc' := 27) X dX8_setMark_26 rfl rfl ?_
      refine z_iload_n (pc' := 28) X dX8_setMark_27 rfl rfl ?_
      refine z_iload_n (pc' := 29) X dX8_setMark_28 rfl rfl ?_
      refine z_V_fun2 (pc' := 32) X rfl Y_X8_isTaken q2273 dX8_setMark_29 rfl (by decide) (Nat.le_refl _) (Nat.le_refl _) (Nat.le_of_ble_eq_true rfl) (c_X8_isTaken _ _ _ _ _ _ (by first | assumption | omega) (by first | assumption | omega)) (fun r29 hr29 hp29 => ?_)
      rw [tak_5 hS] at hp29
      refine z_if_eq (tgt := 39) (pc' := 35) X (by first | assumption | omega) dX8_setMark_32 rfl (by decide) (fun c32 => ?_) (fun c32 => ?_)
      · refine z_iconst (pc' := 40) X dX8_setMark_39 rfl ?_
        refine z_mput (pc' := 43) X 10 3 rfl (by decide) q2073 rfl rfl rfl (by first | assumption | omega) dX8_setMark_40 rfl (fun hR40 => ?_)
        refine z_aload_n (pc' := 44) X dX8_setMark_43 rfl rfl ?_
        have hv44 := hR40 0 3
        refine z_mget (pc' := 47) X 10 rfl (by decide) q2073 rfl dX8_setMark_44 rfl ?_
        rw [mset_s]
        rw [mset_s] at hv44
        refine z_if_le (tgt := 52) (pc' := 50) X (by first | assumption | omega) dX8_setMark_47 rfl (by decide) (fun c47 => ?_) (fun c47 => ?_)
        · refine z_aload_n (pc' := 53) X dX8_setMark_52 rfl rfl ?_
          refine z_V_void0 (pc' := 56) X rfl Y_X8_saves q2151 dX8_setMark_53 rfl (by decide) (Nat.le_refl _) (Nat.le_refl _) (Nat.le_of_ble_eq_true rfl) (c_X8_saves _ _ _ _ (by rw [mset_k (by decide)]; exact hh0)) (fun M53 hp53 hR53 => ?_)
          have hg53 := mThr hp53
          have hA2 := (hA.num (k := 3) (by decide)).saved hp53
          have hS2 := hA2.1
          refine z_aload_n (pc' := 57) X dX8_setMark_56 rfl rfl ?_
          refine z_mget (pc' := 60) X 0 rfl (by decide) q2063 rfl dX8_setMark_57 rfl ?_
          refine z_bipush (pc' := 62) X dX8_setMark_60 rfl (by decide) ?_
          refine z_iconst (pc' := 63) X dX8_setMark_62 rfl ?_
          refine z_iload_n (pc' := 64) X dX8_setMark_63 rfl rfl ?_
          refine z_imul (pc' := 65) X dX8_setMark_64 rfl ?_
          refine z_iadd (pc' := 66) X dX8_setMark_65 rfl ?_
          refine z_mld (pc' := 67) X (r := 1) (by decide) (show 0 ≤ _ ∧ _ < (321 : Int) by omega) dX8_setMark_66 rfl (fun hv66 => ?_)
          refine z_istore_n (pc' := 68) X dX8_setMark_67 rfl (by decide) rfl ?_
          dsimp only [List.set]
          refine z_aload_n (pc' := 69) X dX8_setMark_68 rfl rfl ?_
          refine z_mget (pc' := 72) X 0 rfl (by decide) q2063 rfl dX8_setMark_69 rfl ?_
          refine z_bipush (pc' := 74) X dX8_setMark_72 rfl (by decide) ?_
          refine z_iconst (pc' := 75) X dX8_setMark_74 rfl ?_
          refine z_iload_n (pc' := 76) X dX8_setMark_75 rfl rfl ?_
          refine z_imul (pc' := 77) X dX8_setMark_76 rfl ?_
          refine z_iadd (pc' := 78) X dX8_setMark_77 rfl ?_
          refine z_iload_n (pc' := 79) X dX8_setMark_78 rfl rfl ?_
          refine z_mst (pc' := 80) X (r := 1) (by decide) (show 0 ≤ _ ∧ _ < (321 : Int) by omega) (by first | assumption | omega) dX8_setMark_79 rfl (fun hR79 => ?_)
          refine z_iload_n (pc' := 81) X dX8_setMark_80 rfl rfl ?_
          refine z_ireturn X dX8_setMark_81 (Nat.le_refl _) (Nat.le_refl _) (fun _ hh => ⟨_, hh, _, rfl, ?_, ?_⟩)
          · first | assumption | omega
          · have hg0 : gMrk A.1 m w = 0 := by unfold gMrk; (repeat' split) <;> omega
            rw [hg0]
            exact ⟨by rw [mset_r (by decide), hg53], Or.inr ⟨rfl, mMk_S hS2 (by omega), hA2.row (hS2.set (show scI _ by unfold scI; omega)) (fun q hq => mset_r hq)⟩⟩
        · exact absurd c47 (by decide)
      · refine z_iconst (pc' := 36) X dX8_setMark_35 rfl ?_
        refine z_goto (tgt := 40) X dX8_setMark_36 (by decide) ?_
        refine z_mput (pc' := 43) X 10 3 rfl (by decide) q2073 rfl rfl rfl (by first | assumption | omega) dX8_setMark_40 rfl (fun hR40 => ?_)
        refine z_aload_n (pc' := 44) X dX8_setMark_43 rfl rfl ?_
        have hv44 := hR40 0 3
        refine z_mget (pc' := 47) X 10 rfl (by decide) q2073 rfl dX8_setMark_44 rfl ?_
        rw [mset_s]
        rw [mset_s] at hv44
        refine z_if_le (tgt := 52) (pc' := 50) X (by first | assumption | omega) dX8_setMark_47 rfl (by decide) (fun c47 => ?_) (fun c47 => ?_)
        · exact absurd c47 (by decide)
        · refine z_iconst (pc' := 51) X dX8_setMark_50 rfl ?_
          refine z_ireturn X dX8_setMark_51 (Nat.le_refl _) (Nat.le_refl _) (fun _ hh => ⟨_, hh, _, rfl, ?_, ?_⟩)
          · first | assumption | omega
          · refine ⟨?_, Or.inl ⟨?_, hA.num (by decide)⟩⟩
            · rw [mset_s]; unfold gMrk; (repeat' split) <;> omega
            · unfold gMrk; (repeat' split) <;> omega
    · refine z_iconst (pc' := 23) X dX8_setMark_22 rfl ?_
      refine z_goto (tgt := 40) X dX8_setMark_23 (by decide) ?_
      refine z_mput (pc' := 43) X 10 3 rfl (by decide) q2073 rfl rfl rfl (by first | assumption | omega) dX8_setMark_40 rfl (fun hR40 => ?_)
      refine z_aload_n (pc' := 44) X dX8_setMark_43 rfl rfl ?_
      have hv44 := hR40 0 3
      refine z_mget (pc' := 47) X 10 rfl (by decide) q2073 rfl dX8_setMark_44 rfl ?_
      rw [mset_s]
      rw [mset_s] at hv44
      refine z_if_le (tgt := 52) (pc' := 50) X (by first | assumption | omega) dX8_setMark_47 rfl (by decide) (fun c47 => ?_) (fun c47 => ?_)
      · exact absurd c47 (by decide)
      · refine z_iconst (pc' := 51) X dX8_setMark_50 rfl ?_
        refine z_ireturn X dX8_setMark_51 (Nat.le_refl _) (Nat.le_refl _) (fun _ hh => ⟨_, hh, _, rfl, ?_, ?_⟩)
        · first | assumption | omega
        · refine ⟨?_, Or.inl ⟨?_, hA.num (by decide)⟩⟩
          · rw [mset_s]; unfold gMrk; (repeat' split) <;> omega
          · unfold gMrk; (repeat' split) <;> omega
  · refine z_iconst (pc' := 9) X dX8_setMark_8 rfl ?_
    refine z_goto (tgt := 40) X dX8_setMark_9 (by decide) ?_
    refine z_mput (pc' := 43) X 10 3 rfl (by decide) q2073 rfl rfl rfl (by first | assumption | omega) dX8_setMark_40 rfl (fun hR40 => ?_)
    refine z_aload_n (pc' := 44) X dX8_setMark_43 rfl rfl ?_
    have hv44 := hR40 0 3
    refine z_mget (pc' := 47) X 10 rfl (by decide) q2073 rfl dX8_setMark_44 rfl ?_
    rw [mset_s]
    rw [mset_s] at hv44
    refine z_if_le (tgt := 52) (pc' := 50) X (by first | assumption | omega) dX8_setMark_47 rfl (by decide) (fun c47 => ?_) (fun c47 => ?_)
    · exact absurd c47 (by decide)
    · refine z_iconst (pc' := 51) X dX8_setMark_50 rfl ?_
      refine z_ireturn X dX8_setMark_51 (Nat.le_refl _) (Nat.le_refl _) (fun _ hh => ⟨_, hh, _, rfl, ?_, ?_⟩)
      · first | assumption | omega
      · refine ⟨?_, Or.inl ⟨?_, hA.num (by decide)⟩⟩
        · rw [mset_s]; unfold gMrk; (repeat' split) <;> omega
        · unfold gMrk; (repeat' split) <;> omega
/-- bales and what follows them -/
theorem runB_drop {bs : List Bl} {k : Int} (hk : 0 ≤ k ∧ k < bs.length) : runB (bs.drop k.toNat) = if (atB bs k).2.2.2 ≠ -1 ∧ 20 ≤ (atB bs k).2.2.1 then 1 + runB (bs.drop (k + 1).toNat) else 0 := by
  have hl : k.toNat < bs.length := by omega
  have e : atB bs k = bs[k.toNat] := by unfold atB; rw [List.getElem?_eq_getElem hl]; rfl
  rw [e, show (k + 1).toNat = k.toNat + 1 by omega, ← List.getElem_cons_drop (h := hl)]
  rfl
theorem runB_take {bs : List Bl} {k : Int} (hk : 0 ≤ k ∧ k < bs.length) : runB (bs.take (k + 1).toNat).reverse = if (atB bs k).2.2.2 ≠ -1 ∧ 20 ≤ (atB bs k).2.2.1 then 1 + runB (bs.take k.toNat).reverse else 0 := by
  have hl : k.toNat < bs.length := by omega
  have e : atB bs k = bs[k.toNat] := by unfold atB; rw [List.getElem?_eq_getElem hl]; rfl
  rw [e, show (k + 1).toNat = k.toNat + 1 by omega, List.take_succ_eq_append_getElem hl, List.reverse_append]
  rfl
theorem runB_nil {bs : List Bl} {k : Int} (hk : (bs.length : Int) ≤ k) : runB (bs.drop k.toNat) = 0 := by
  rw [List.drop_eq_nil_of_le (by omega)]
  rfl
theorem runB_nil' {bs : List Bl} {k : Int} (hk : k < 0) : runB (bs.take (k + 1).toNat).reverse = 0 := by
  rw [show (k + 1).toNat = 0 by omega]
  rfl
theorem runB_b : ∀ bs : List Bl, 0 ≤ runB bs ∧ runB bs ≤ bs.length
  | [] => ⟨Int.le_refl _, Int.le_refl _⟩
  | b :: t => by
    have h := runB_b t
    show 0 ≤ (if b.2.2.2 ≠ -1 ∧ 20 ≤ b.2.2.1 then 1 + runB t else 0) ∧ (if b.2.2.2 ≠ -1 ∧ 20 ≤ b.2.2.1 then 1 + runB t else 0) ≤ ((t.length + 1 : Nat) : Int)
    split <;> omega
theorem Y_X8_reach : zYV yX8_reach cX8_reach 5 (some .int) 2 := ⟨⟨q2452, qs90, q132, q2453⟩, by decide +kernel, by decide⟩
set_option maxRecDepth 100000 in
theorem c_X8_reach_r (l : Launch) (g : zG) (ma : Nat → Nat) (M : MM) (p : Int) (bs : List Bl) (hp : 0 ≤ p ∧ p < bs.length) (hb0 : bRep (M 1) bs) (hn : 0 ≤ M 1 4 ∧ M 1 4 ≤ 24) : mFun l yX8_reach cX8_reach 5 (some .int) 3 [vR (ma 0), vI p, (vI (1))] g ma M (fun r => r = runB (bs.drop (p + (1)).toNat)) := by
  refine mFun.mk (L0 := [some (vR (ma 0)), some (vI p), some ((vI (1))), none, none]) (by decide) rfl (Nat.le_of_ble_eq_true rfl) rfl (fun C h hg hl hR X => ?_)
  subst hg hl
  have h4 := hb0.1
  refine z_iconst (pc' := 1) X dX8_reach_0 rfl ?_
  refine z_istore_n (pc' := 2) X dX8_reach_1 rfl (by decide) rfl ?_
  dsimp only [List.set]
  refine z_iload_n (pc' := 3) X dX8_reach_2 rfl rfl ?_
  refine z_iload_n (pc' := 4) X dX8_reach_3 rfl rfl ?_
  refine z_iadd (pc' := 5) X dX8_reach_4 rfl ?_
  refine z_istore (pc' := 7) X dX8_reach_5 rfl (by decide) rfl ?_
  dsimp only [List.set]
  have loop7 : ∀ (N : Nat) (n k : Int), (0 ≤ k ∧ k ≤ bs.length) → (n + runB (bs.drop (k).toNat) = runB (bs.drop (p + (1)).toNat)) → (0 ≤ n ∧ n ≤ 24 ∧ n ≤ k) → (24 - k).toNat < N → ZP C 5 (mF ma h (M)) 0 0 [some (vR (ma 0)), some (vI p), some (vI (1)), some (vI n), some (vI k)] 7 [] := by
    intro N
    induction N with
    | zero => intro n k hkk hinv hnn hN; exact absurd hN (Nat.not_lt_zero _)
    | succ N ih7 =>
      intro n k hkk hinv hnn hN
      refine ZP.fact (P := mR (M)) (fun _ h => h.1.2.2.2) (fun hR7 => ?_)
      refine z_aload_n (pc' := 8) X dX8_reach_7 rfl rfl ?_
      refine z_iload (pc' := 10) X dX8_reach_8 rfl rfl ?_
      refine z_V_fun1 (pc' := 13) X rfl Y_X8_isBale q2190 dX8_reach_10 rfl (by decide) (Nat.le_refl _) (Nat.le_refl _) (Nat.le_of_ble_eq_true rfl) (c_X8_isBale _ _ _ _ _ (by first | assumption | omega) (by first | assumption | omega)) (fun r10 hr10 hp10 => ?_)
      refine z_if_eq (tgt := 49) (pc' := 16) X (by first | assumption | omega) dX8_reach_13 rfl (by decide) (fun c13 => ?_) (fun c13 => ?_)
      · refine z_iload_n (pc' := 50) X dX8_reach_49 rfl rfl ?_
        refine z_ireturn X dX8_reach_50 (Nat.le_refl _) (Nat.le_refl _) (fun _ hh => ⟨hh, _, rfl, ?_, ?_⟩)
        · first | assumption | omega
        · first
            | (rw [if_neg (by omega)] at hst; omega)
            | (have h0 := runB_nil (bs := bs) (k := k) (by omega); omega)
      · have hb1 := bR_at hb0 (i := k) (w := 3) (by omega) (by decide)
        have hb2 := bR_at hb0 (i := k) (w := 2) (by omega) (by decide)
        change mB M k 3 = (atB bs k).2.2.2 at hb1
        change mB M k 2 = (atB bs k).2.2.1 at hb2
        have hst := runB_drop (bs := bs) (k := k) (by omega)
        refine z_aload_n (pc' := 17) X dX8_reach_16 rfl rfl ?_
        refine z_iload (pc' := 19) X dX8_reach_17 rfl rfl ?_
        refine z_V_fun1 (pc' := 22) X rfl Y_X8_isMouldy q2232 dX8_reach_19 rfl (by decide) (Nat.le_refl _) (Nat.le_refl _) (Nat.le_of_ble_eq_true rfl) (c_X8_isMouldy _ _ _ _ _ (by first | assumption | omega)) (fun r19 hr19 hp19 => ?_)
        refine z_if_ne (tgt := 49) (pc' := 25) X (by first | assumption | omega) dX8_reach_22 rfl (by decide) (fun c22 => ?_) (fun c22 => ?_)
        · refine z_iload_n (pc' := 50) X dX8_reach_49 rfl rfl ?_
          refine z_ireturn X dX8_reach_50 (Nat.le_refl _) (Nat.le_refl _) (fun _ hh => ⟨hh, _, rfl, ?_, ?_⟩)
          · first | assumption | omega
          · first
              | (rw [if_neg (by omega)] at hst; omega)
              | (have h0 := runB_nil (bs := bs) (k := k) (by omega); omega)
        · refine z_aload_n (pc' := 26) X dX8_reach_25 rfl rfl ?_
          refine z_iload (pc' := 28) X dX8_reach_26 rfl rfl ?_
          refine z_iconst (pc' := 29) X dX8_reach_28 rfl ?_
          refine z_V_fun2 (pc' := 32) X rfl Y_X8_bale q2194 dX8_reach_29 rfl (by decide) (Nat.le_refl _) (Nat.le_refl _) (Nat.le_of_ble_eq_true rfl) (c_X8_bale _ _ _ _ _ _ (by first | assumption | omega) (by first | assumption | omega)) (fun r29 hr29 hp29 => ?_)
          subst hp29
          refine z_bipush (pc' := 34) X dX8_reach_32 rfl (by decide) ?_
          refine z_icmp_lt (tgt := 49) (pc' := 37) X (by first | assumption | omega) (by first | assumption | omega) dX8_reach_34 rfl (by decide) (fun c34 => ?_) (fun c34 => ?_)
          · refine z_iload_n (pc' := 50) X dX8_reach_49 rfl rfl ?_
            refine z_ireturn X dX8_reach_50 (Nat.le_refl _) (Nat.le_refl _) (fun _ hh => ⟨hh, _, rfl, ?_, ?_⟩)
            · first | assumption | omega
            · first
                | (rw [if_neg (by omega)] at hst; omega)
                | (have h0 := runB_nil (bs := bs) (k := k) (by omega); omega)
          · rw [if_pos (by omega)] at hst
            refine z_iinc (pc' := 40) X dX8_reach_37 rfl (by decide) rfl rfl ?_
            dsimp only [List.set]
            refine z_iload (pc' := 42) X dX8_reach_40 rfl rfl ?_
            refine z_iload_n (pc' := 43) X dX8_reach_42 rfl rfl ?_
            refine z_iadd (pc' := 44) X dX8_reach_43 rfl ?_
            refine z_istore (pc' := 46) X dX8_reach_44 rfl (by decide) rfl ?_
            dsimp only [List.set]
            refine z_goto (tgt := 7) X dX8_reach_46 (by decide) ?_
            refine ZP.wk (L' := [some (vR (ma 0)), some (vI p), some (vI (1)), some (vI _), some (vI _)]) (And.intro rfl (And.intro rfl (And.intro rfl (And.intro rfl (And.intro rfl (trivial)))))) ?_
            exact ih7 _ _ (by omega) (by omega) (by omega) (by omega)
  refine ZP.wk (L' := [some (vR (ma 0)), some (vI p), some (vI (1)), some (vI _), some (vI _)]) (And.intro rfl (And.intro rfl (And.intro rfl (And.intro rfl (And.intro rfl (trivial)))))) ?_
  exact loop7 _ _ _ (by omega) (by omega) (by omega) (Nat.lt_succ_self _)
set_option maxRecDepth 100000 in
theorem c_X8_reach_l (l : Launch) (g : zG) (ma : Nat → Nat) (M : MM) (p : Int) (bs : List Bl) (hp : 0 ≤ p ∧ p < bs.length) (hb0 : bRep (M 1) bs) (hn : 0 ≤ M 1 4 ∧ M 1 4 ≤ 24) : mFun l yX8_reach cX8_reach 5 (some .int) 3 [vR (ma 0), vI p, (vI (-1))] g ma M (fun r => r = runB (bs.take (p + (-1) + 1).toNat).reverse) := by
  refine mFun.mk (L0 := [some (vR (ma 0)), some (vI p), some ((vI (-1))), none, none]) (by decide) rfl (Nat.le_of_ble_eq_true rfl) rfl (fun C h hg hl hR X => ?_)
  subst hg hl
  have h4 := hb0.1
  refine z_iconst (pc' := 1) X dX8_reach_0 rfl ?_
  refine z_istore_n (pc' := 2) X dX8_reach_1 rfl (by decide) rfl ?_
  dsimp only [List.set]
  refine z_iload_n (pc' := 3) X dX8_reach_2 rfl rfl ?_
  refine z_iload_n (pc' := 4) X dX8_reach_3 rfl rfl ?_
  refine z_iadd (pc' := 5) X dX8_reach_4 rfl ?_
  refine z_istore (pc' := 7) X dX8_reach_5 rfl (by decide) rfl ?_
  dsimp only [List.set]
  have loop7 : ∀ (N : Nat) (n k : Int), (-1 ≤ k ∧ k < bs.length) → (n + runB (bs.take (k + 1).toNat).reverse = runB (bs.take (p + (-1) + 1).toNat).reverse) → (0 ≤ n ∧ n ≤ 24 ∧ n + k + 1 ≤ 24) → (k + 1).toNat < N → ZP C 5 (mF ma h (M)) 0 0 [some (vR (ma 0)), some (vI p), some (vI (-1)), some (vI n), some (vI k)] 7 [] := by
    intro N
    induction N with
    | zero => intro n k hkk hinv hnn hN; exact absurd hN (Nat.not_lt_zero _)
    | succ N ih7 =>
      intro n k hkk hinv hnn hN
      refine ZP.fact (P := mR (M)) (fun _ h => h.1.2.2.2) (fun hR7 => ?_)
      refine z_aload_n (pc' := 8) X dX8_reach_7 rfl rfl ?_
      refine z_iload (pc' := 10) X dX8_reach_8 rfl rfl ?_
      refine z_V_fun1 (pc' := 13) X rfl Y_X8_isBale q2190 dX8_reach_10 rfl (by decide) (Nat.le_refl _) (Nat.le_refl _) (Nat.le_of_ble_eq_true rfl) (c_X8_isBale _ _ _ _ _ (by first | assumption | omega) (by first | assumption | omega)) (fun r10 hr10 hp10 => ?_)
      refine z_if_eq (tgt := 49) (pc' := 16) X (by first | assumption | omega) dX8_reach_13 rfl (by decide) (fun c13 => ?_) (fun c13 => ?_)
      · refine z_iload_n (pc' := 50) X dX8_reach_49 rfl rfl ?_
        refine z_ireturn X dX8_reach_50 (Nat.le_refl _) (Nat.le_refl _) (fun _ hh => ⟨hh, _, rfl, ?_, ?_⟩)
        · first | assumption | omega
        · first
            | (rw [if_neg (by omega)] at hst; omega)
            | (have h0 := runB_nil' (bs := bs) (k := k) (by omega); omega)
      · have hb1 := bR_at hb0 (i := k) (w := 3) (by omega) (by decide)
        have hb2 := bR_at hb0 (i := k) (w := 2) (by omega) (by decide)
        change mB M k 3 = (atB bs k).2.2.2 at hb1
        change mB M k 2 = (atB bs k).2.2.1 at hb2
        have hst := runB_take (bs := bs) (k := k) (by omega)
        refine z_aload_n (pc' := 17) X dX8_reach_16 rfl rfl ?_
        refine z_iload (pc' := 19) X dX8_reach_17 rfl rfl ?_
        refine z_V_fun1 (pc' := 22) X rfl Y_X8_isMouldy q2232 dX8_reach_19 rfl (by decide) (Nat.le_refl _) (Nat.le_refl _) (Nat.le_of_ble_eq_true rfl) (c_X8_isMouldy _ _ _ _ _ (by first | assumption | omega)) (fun r19 hr19 hp19 => ?_)
        refine z_if_ne (tgt := 49) (pc' := 25) X (by first | assumption | omega) dX8_reach_22 rfl (by decide) (fun c22 => ?_) (fun c22 => ?_)
        · refine z_iload_n (pc' := 50) X dX8_reach_49 rfl rfl ?_
          refine z_ireturn X dX8_reach_50 (Nat.le_refl _) (Nat.le_refl _) (fun _ hh => ⟨hh, _, rfl, ?_, ?_⟩)
          · first | assumption | omega
          · first
              | (rw [if_neg (by omega)] at hst; omega)
              | (have h0 := runB_nil' (bs := bs) (k := k) (by omega); omega)
        · refine z_aload_n (pc' := 26) X dX8_reach_25 rfl rfl ?_
          refine z_iload (pc' := 28) X dX8_reach_26 rfl rfl ?_
          refine z_iconst (pc' := 29) X dX8_reach_28 rfl ?_
          refine z_V_fun2 (pc' := 32) X rfl Y_X8_bale q2194 dX8_reach_29 rfl (by decide) (Nat.le_refl _) (Nat.le_refl _) (Nat.le_of_ble_eq_true rfl) (c_X8_bale _ _ _ _ _ _ (by first | assumption | omega) (by first | assumption | omega)) (fun r29 hr29 hp29 => ?_)
          subst hp29
          refine z_bipush (pc' := 34) X dX8_reach_32 rfl (by decide) ?_
          refine z_icmp_lt (tgt := 49) (pc' := 37) X (by first | assumption | omega) (by first | assumption | omega) dX8_reach_34 rfl (by decide) (fun c34 => ?_) (fun c34 => ?_)
          · refine z_iload_n (pc' := 50) X dX8_reach_49 rfl rfl ?_
            refine z_ireturn X dX8_reach_50 (Nat.le_refl _) (Nat.le_refl _) (fun _ hh => ⟨hh, _, rfl, ?_, ?_⟩)
            · first | assumption | omega
            · first
                | (rw [if_neg (by omega)] at hst; omega)
                | (have h0 := runB_nil' (bs := bs) (k := k) (by omega); omega)
          · rw [if_pos (by omega)] at hst
            refine z_iinc (pc' := 40) X dX8_reach_37 rfl (by decide) rfl rfl ?_
            dsimp only [List.set]
            refine z_iload (pc' := 42) X dX8_reach_40 rfl rfl ?_
            refine z_iload_n (pc' := 43) X dX8_reach_42 rfl rfl ?_
            refine z_iadd (pc' := 44) X dX8_reach_43 rfl ?_
            refine z_istore (pc' := 46) X dX8_reach_44 rfl (by decide) rfl ?_
            dsimp only [List.set]
            refine z_goto (tgt := 7) X dX8_reach_46 (by decide) ?_
            refine ZP.wk (L' := [some (vR (ma 0)), some (vI p), some (vI (-1)), some (vI _), some (vI _)]) (And.intro rfl (And.intro rfl (And.intro rfl (And.intro rfl (And.intro rfl (trivial)))))) ?_
            exact ih7 _ _ (by omega) (by rw [show k + (-1) + 1 = k by omega]; omega) (by omega) (by omega)
  refine ZP.wk (L' := [some (vR (ma 0)), some (vI p), some (vI (-1)), some (vI _), some (vI _)]) (And.intro rfl (And.intro rfl (And.intro rfl (And.intro rfl (And.intro rfl (trivial)))))) ?_
  exact loop7 _ _ _ (by omega) (by omega) (by omega) (Nat.lt_succ_self _)
theorem Y_X8_mouldReach : zYV yX8_mouldReach cX8_mouldReach 2 (some .int) 1 := ⟨⟨q2447, q2448, q132, q2449⟩, by decide +kernel, by decide⟩
set_option maxRecDepth 100000 in
theorem c_X8_mouldReach (l : Launch) (g : zG) (ma : Nat → Nat) (M : MM) (p : Int) (A : Ab) (P Q : Int) (hp : rng p) (hA : mRep M A) (hk : okA P Q A) (hP : P ≤ 900000) (hQ : Q ≤ 9000000) : mInt l yX8_mouldReach cX8_mouldReach 2 (some .int) 7 [vR (ma 0), vI p] g ma M (fun r M' => outP (gAt A.1.2.1.length p) A (reachS A.1.2.1 p) A r M') := by
  refine mInt.mk (L0 := [some (vR (ma 0)), some (vI p)]) (by decide) rfl (Nat.le_of_ble_eq_true rfl) rfl (fun C h hg hl hR X => ?_)
  subst hg hl
  obtain ⟨hS, hN, hH, hT⟩ := id hA
  obtain ⟨hkS, -, -, -⟩ := id hk
  obtain ⟨⟨kc1, -, kc3, kc4, kc5⟩, kb, kp, kq⟩ := id hkS
  have hI := hk.I hA hP hQ
  have hn := mI_n hI
  have hh0 : 0 ≤ M 0 0 ∧ M 0 0 ≤ 5 := ⟨by rw [hH.1]; omega, by rw [hH.1]; have := hH.2.1; omega⟩
  have s0 := sc_at hA (j := 0) (by unfold scI; omega)
  have s1 := sc_at hA (j := 1) (by unfold scI; omega)
  have hA0 : mRep (mset M 0 3 0) A := hA.num (by decide)
  have hS0 := hA0.1
  have hI0 : mI (mset M 0 3 0) := hk.I hA0 hP hQ
  have q4 := hS.2.1.1
  have q5 := hS.2.2.1.1
  have q6 := hS.2.2.2.1
  have p4 := hS0.2.1.1
  have p5 := hS0.2.2.1.1
  have p6 := hS0.2.2.2.1
  refine z_aload_n (pc' := 1) X dX8_mouldReach_0 rfl rfl ?_
  refine z_aload_n (pc' := 2) X dX8_mouldReach_1 rfl rfl ?_
  refine z_iload_n (pc' := 3) X dX8_mouldReach_2 rfl rfl ?_
  refine z_V_fun1 (pc' := 6) X rfl Y_X8_isBale q2190 dX8_mouldReach_3 rfl (by decide) (Nat.le_refl _) (Nat.le_refl _) (Nat.le_of_ble_eq_true rfl) (c_X8_isBale _ _ _ _ _ (by first | assumption | omega) (by first | assumption | omega)) (fun r3 hr3 hp3 => ?_)
  refine z_if_eq (tgt := 13) (pc' := 9) X (by first | assumption | omega) dX8_mouldReach_6 rfl (by decide) (fun c6 => ?_) (fun c6 => ?_)
  · refine z_iconst (pc' := 14) X dX8_mouldReach_13 rfl ?_
    refine z_mput (pc' := 17) X 10 3 rfl (by decide) q2073 rfl rfl rfl (by first | assumption | omega) dX8_mouldReach_14 rfl (fun hR14 => ?_)
    refine z_aload_n (pc' := 18) X dX8_mouldReach_17 rfl rfl ?_
    have hv18 := hR14 0 3
    refine z_mget (pc' := 21) X 10 rfl (by decide) q2073 rfl dX8_mouldReach_18 rfl ?_
    rw [mset_s]
    rw [mset_s] at hv18
    refine z_if_le (tgt := 28) (pc' := 24) X (by first | assumption | omega) dX8_mouldReach_21 rfl (by decide) (fun c21 => ?_) (fun c21 => ?_)
    · exact absurd c21 (by decide)
    · refine z_iconst (pc' := 25) X dX8_mouldReach_24 rfl ?_
      refine z_goto (tgt := 41) X dX8_mouldReach_25 (by decide) ?_
      refine z_ireturn X dX8_mouldReach_41 (Nat.le_refl _) (Nat.le_refl _) (fun _ hh => ⟨_, hh, _, rfl, ?_, ?_⟩)
      · first | assumption | omega
      · exact ⟨by rw [mset_s]; unfold gAt; (repeat' split) <;> omega, Or.inl ⟨by unfold gAt; (repeat' split) <;> omega, hA.num (by decide)⟩⟩
  · refine z_iconst (pc' := 10) X dX8_mouldReach_9 rfl ?_
    refine z_goto (tgt := 14) X dX8_mouldReach_10 (by decide) ?_
    refine z_mput (pc' := 17) X 10 3 rfl (by decide) q2073 rfl rfl rfl (by first | assumption | omega) dX8_mouldReach_14 rfl (fun hR14 => ?_)
    refine z_aload_n (pc' := 18) X dX8_mouldReach_17 rfl rfl ?_
    have hv18 := hR14 0 3
    refine z_mget (pc' := 21) X 10 rfl (by decide) q2073 rfl dX8_mouldReach_18 rfl ?_
    rw [mset_s]
    rw [mset_s] at hv18
    refine z_if_le (tgt := 28) (pc' := 24) X (by first | assumption | omega) dX8_mouldReach_21 rfl (by decide) (fun c21 => ?_) (fun c21 => ?_)
    · refine z_aload_n (pc' := 29) X dX8_mouldReach_28 rfl rfl ?_
      refine z_iload_n (pc' := 30) X dX8_mouldReach_29 rfl rfl ?_
      refine z_iconst (pc' := 31) X dX8_mouldReach_30 rfl ?_
      refine z_V_fun2 (pc' := 34) X rfl Y_X8_reach q2450 dX8_mouldReach_31 rfl (by decide) (Nat.le_refl _) (Nat.le_refl _) (Nat.le_of_ble_eq_true rfl) (c_X8_reach_r _ _ _ _ p A.1.2.1 (by omega) hS0.2.1 (by omega)) (fun r31 hr31 hp31 => ?_)
      have b31 := runB_b (A.1.2.1.drop (p + 1).toNat)
      have l31 : (A.1.2.1.drop (p + 1).toNat).length ≤ 24 := by rw [List.length_drop]; omega
      subst hp31
      refine z_aload_n (pc' := 35) X dX8_mouldReach_34 rfl rfl ?_
      refine z_iload_n (pc' := 36) X dX8_mouldReach_35 rfl rfl ?_
      refine z_iconst (pc' := 37) X dX8_mouldReach_36 rfl ?_
      refine z_V_fun2 (pc' := 40) X rfl Y_X8_reach q2450 dX8_mouldReach_37 rfl (by decide) (Nat.le_refl _) (Nat.le_refl _) (Nat.le_of_ble_eq_true rfl) (c_X8_reach_l _ _ _ _ p A.1.2.1 (by omega) hS0.2.1 (by omega)) (fun r37 hr37 hp37 => ?_)
      have b37 := runB_b (A.1.2.1.take (p + -1 + 1).toNat).reverse
      have l37 : ((A.1.2.1.take (p + -1 + 1).toNat).reverse).length ≤ 24 := by rw [List.length_reverse, List.length_take]; omega
      subst hp37
      refine z_iadd (pc' := 41) X dX8_mouldReach_40 rfl ?_
      refine z_ireturn X dX8_mouldReach_41 (Nat.le_refl _) (Nat.le_refl _) (fun _ hh => ⟨_, hh, _, rfl, ?_, ?_⟩)
      · first | assumption | omega
      · have hg0 : gAt A.1.2.1.length p = 0 := by unfold gAt; (repeat' split) <;> omega
        rw [hg0]
        exact ⟨mset_s, Or.inr ⟨rfl, by unfold reachS; rw [show p.toNat + 1 = (p + 1).toNat by omega, show p.toNat = (p + -1 + 1).toNat by omega], hA0⟩⟩
    · exact absurd c21 (by decide)
theorem copy_1 {M : MM} {S : St} {r1 : Nat} {a : Int} (h : sRep (fun j => M r1 (a + j)) S) : sRep (mcopy M r1 a 1 0 321 1) S := by
  refine h.congr (fun j x y => ?_)
  unfold mcopy
  rw [if_pos ⟨rfl, by omega, by omega⟩, show a + (j - 0) = a + j by omega]
theorem copy_n {M : MM} {r1 r2 q : Nat} {a b n : Int} (h : q ≠ r2) : mcopy M r1 a r2 b n q = M q := funext fun j => if_neg (fun x => h x.1)
/-- the day of the first night in which bales become mouldy; none in n nights: -1 -/
def untilN (d : Int) : Nat → St → Int
  | 0, _ => -1
  | n + 1, S => if nNew S = 0 then untilN (d + 1) n (nightS S) else d + 1
theorem untilN_s {d : Int} {n : Nat} {S : St} : untilN d (n + 1) S = if nNew S = 0 then untilN (d + 1) n (nightS S) else d + 1 := rfl
def gUnd (A : Ab) : Int := if A.2.2.1.length = 0 then 1 else 0
def undS (A : Ab) : Ab := (A.2.2.1.getLast?.getD A.1, A.2.1, A.2.2.1.dropLast, A.2.2.2)
def gRes (A : Ab) : Int := if A.2.1.isNone then 1 else 0
def snpS (A : Ab) : St := A.2.1.getD A.1
theorem mRep.undo {M M' : MM} {A : Ab} (h : mRep M A) (hl : 0 < A.2.2.1.length) (h1 : M' 1 = mcopy M 2 (321 * (M 0 0 - 1)) 1 0 321 1) (h0 : M' 0 0 = M 0 0 - 1 ∧ M' 0 1 = M 0 1 ∧ M' 0 2 = M 0 2) (h2 : M' 2 = M 2) (h3 : M' 3 = M 3) (h7 : M' 7 = M 7) : mRep M' (undS A) := by
  obtain ⟨hc, hn, hh, ht⟩ := h
  have hls : A.2.2.1.length - 1 < A.2.2.1.length := by omega
  have eL : A.2.2.1.getLast?.getD A.1 = A.2.2.1[A.2.2.1.length - 1] := by
    rw [List.getLast?_eq_getElem?, List.getElem?_eq_getElem hls]
    rfl
  have key := hh.2.2 (A.2.2.1.length - 1) _ (List.getElem?_eq_getElem hls)
  have e0 := hh.1
  refine ⟨?_, ?_, ⟨?_, ?_, fun i S hi => ?_⟩, ⟨h0.2.2.trans ht.1, ht.2.1, fun i c hi => by rw [h7]; exact ht.2.2 i c hi⟩⟩
  · show sRep (M' 1) (A.2.2.1.getLast?.getD A.1)
    rw [h1, eL]
    refine copy_1 (M := M) (r1 := 2) ?_
    rw [show 321 * (M 0 0 - 1) = 321 * ((A.2.2.1.length - 1 : Nat) : Int) by omega]
    exact key
  · show nRep M' A.2.1
    unfold nRep
    rw [h0.2.1, h3]
    exact hn
  · show M' 0 0 = (A.2.2.1.dropLast.length : Int)
    rw [h0.1, List.length_dropLast]
    omega
  · show A.2.2.1.dropLast.length ≤ 5
    rw [List.length_dropLast]
    have := hh.2.1
    omega
  · show sRep (fun j => M' 2 (321 * (i : Int) + j)) S
    rw [h2]
    have hi : A.2.2.1.dropLast[i]? = some S := hi
    rw [List.getElem?_dropLast] at hi
    split at hi
    · exact hh.2.2 i S hi
    · cases hi
theorem mRep.snap {M M' : MM} {A : Ab} (h : mRep M A) (h1 : M' 1 = M 1) (h3 : ∀ j, 0 ≤ j → j < 321 → M' 3 j = M 1 j) (h0 : M' 0 0 = M 0 0 ∧ M' 0 1 = 1 ∧ M' 0 2 = M 0 2) (h2 : M' 2 = M 2) (h7 : M' 7 = M 7) : mRep M' (A.1, some A.1, A.2.2) := by
  obtain ⟨hc, hn, hh, ht⟩ := h
  refine ⟨by rw [h1]; exact hc, Or.inr ⟨h0.2.1, A.1, rfl, hc.congr h3⟩, ⟨h0.1.trans hh.1, hh.2.1, fun i S hi => ?_⟩, ⟨h0.2.2.trans ht.1, ht.2.1, fun i c hi => by rw [h7]; exact ht.2.2 i c hi⟩⟩
  show sRep (fun j => M' 2 (321 * (i : Int) + j)) S
  rw [h2]
  exact hh.2.2 i S hi
theorem Y_X8_daysUntilMould : zYV yX8_daysUntilMould cX8_daysUntilMould 2 (some .int) 0 := ⟨⟨q2583, q2584, q132, q2585⟩, by decide +kernel, by decide⟩
set_option maxRecDepth 100000 in
theorem c_X8_daysUntilMould (l : Launch) (g : zG) (ma : Nat → Nat) (M : MM) (A : Ab) (P Q : Int) (hA : mRep M A) (hk : okA P Q A) (hP : P ≤ 900000) (hQ : Q ≤ 9000000) : mInt l yX8_daysUntilMould cX8_daysUntilMould 2 (some .int) 7 [vR (ma 0)] g ma M (fun r M' => outP 0 A (untilN 0 60 A.1) A r M') := by
  refine mInt.mk (L0 := [some (vR (ma 0)), none]) (by decide) rfl (Nat.le_of_ble_eq_true rfl) rfl (fun C h hg hl hR X => ?_)
  subst hg hl
  obtain ⟨hS, hN, hH, hT⟩ := id hA
  obtain ⟨hkS, -, -, -⟩ := id hk
  obtain ⟨⟨kc1, -, kc3, kc4, kc5⟩, kb, kp, kq⟩ := id hkS
  have hI := hk.I hA hP hQ
  have hn := mI_n hI
  have hh0 : 0 ≤ M 0 0 ∧ M 0 0 ≤ 5 := ⟨by rw [hH.1]; omega, by rw [hH.1]; have := hH.2.1; omega⟩
  have s0 := sc_at hA (j := 0) (by unfold scI; omega)
  have s1 := sc_at hA (j := 1) (by unfold scI; omega)
  have hA0 : mRep (mset M 0 3 0) A := hA.num (by decide)
  have hS0 := hA0.1
  have hI0 : mI (mset M 0 3 0) := hk.I hA0 hP hQ
  have q4 := hS.2.1.1
  have q5 := hS.2.2.1.1
  have q6 := hS.2.2.2.1
  have p4 := hS0.2.1.1
  have p5 := hS0.2.2.1.1
  have p6 := hS0.2.2.2.1
  have hDP : P ≤ 1000000 := by omega
  refine z_aload_n (pc' := 1) X dX8_daysUntilMould_0 rfl rfl ?_
  refine z_iconst (pc' := 2) X dX8_daysUntilMould_1 rfl ?_
  refine z_mput (pc' := 5) X 10 3 rfl (by decide) q2073 rfl rfl rfl (by first | assumption | omega) dX8_daysUntilMould_2 rfl (fun hR2 => ?_)
  refine z_aload_n (pc' := 6) X dX8_daysUntilMould_5 rfl rfl ?_
  refine z_mget (pc' := 9) X 0 rfl (by decide) q2063 rfl dX8_daysUntilMould_6 rfl ?_
  refine z_iconst (pc' := 10) X dX8_daysUntilMould_9 rfl ?_
  refine z_aload_n (pc' := 11) X dX8_daysUntilMould_10 rfl rfl ?_
  refine z_mget (pc' := 14) X 5 rfl (by decide) q2068 rfl dX8_daysUntilMould_11 rfl ?_
  refine z_iconst (pc' := 15) X dX8_daysUntilMould_14 rfl ?_
  refine z_S_void4 (pc' := 18) X Y_X8_lays q2155 dX8_daysUntilMould_15 rfl (by decide) (Nat.le_refl _) (Nat.le_refl _) (Nat.le_of_ble_eq_true rfl) (c_X8_lays _ _ _ _ 0 0 1 4 (by decide) (by decide) (by decide) (by decide) (by decide)) (fun M15 hp15 hR15 => ?_)
  subst hp15
  have z1 : mcopy (mset M 0 3 0) 1 0 4 0 321 1 = mset M 0 3 0 1 := copy_n (by decide)
  refine z_iconst (pc' := 19) X dX8_daysUntilMould_18 rfl ?_
  refine z_istore_n (pc' := 20) X dX8_daysUntilMould_19 rfl (by decide) rfl ?_
  dsimp only [List.set]
  refine z_aload_n (pc' := 21) X dX8_daysUntilMould_20 rfl rfl ?_
  refine z_iconst (pc' := 22) X dX8_daysUntilMould_21 rfl ?_
  refine z_mput (pc' := 25) X 11 4 rfl (by decide) q2074 rfl rfl rfl (by first | assumption | omega) dX8_daysUntilMould_22 rfl (fun hR22 => ?_)
  have loop25 : ∀ (N : Nat) (d : Int) (Mx : MM) (Sx : St), (0 ≤ d ∧ d ≤ 60) → (sRep (Mx 1) Sx) → (okS (999 + d) P Q Sx) → ((Mx 0 4 = 0 ∧ untilN d (60 - d).toNat Sx = untilN 0 60 A.1) ∨ (Mx 0 4 ≠ 0 ∧ d = untilN 0 60 A.1)) → (∀ j, j ≠ 4 → Mx 0 j = mset M 0 3 0 0 j) → (∀ q, q ≠ 0 → q ≠ 1 → q ≠ 6 → Mx q = mcopy (mset M 0 3 0) 1 0 4 0 321 q) → (60 - d).toNat < N → ZP C 2 (mF ma h (Mx)) 0 0 [some (vR (ma 0)), some (vI d)] 25 [] := by
    intro N
    induction N with
    | zero => intro d Mx Sx hd hSx hkx hu h0 hr hN; exact absurd hN (Nat.not_lt_zero _)
    | succ N ih25 =>
      intro d Mx Sx hd hSx hkx hu h0 hr hN
      refine ZP.fact (P := mR (Mx)) (fun _ h => h.1.2.2.2) (fun hR25 => ?_)
      have hv4 := hR25 0 4
      refine z_iload_n (pc' := 26) X dX8_daysUntilMould_25 rfl rfl ?_
      refine z_bipush (pc' := 28) X dX8_daysUntilMould_26 rfl (by decide) ?_
      refine z_icmp_ge (tgt := 56) (pc' := 31) X (by first | assumption | omega) (by first | assumption | omega) dX8_daysUntilMould_28 rfl (by decide) (fun c28 => ?_) (fun c28 => ?_)
      · refine z_aload_n (pc' := 57) X dX8_daysUntilMould_56 rfl rfl ?_
        refine z_mget (pc' := 60) X 5 rfl (by decide) q2068 rfl dX8_daysUntilMould_57 rfl ?_
        refine z_iconst (pc' := 61) X dX8_daysUntilMould_60 rfl ?_
        refine z_aload_n (pc' := 62) X dX8_daysUntilMould_61 rfl rfl ?_
        refine z_mget (pc' := 65) X 0 rfl (by decide) q2063 rfl dX8_daysUntilMould_62 rfl ?_
        refine z_iconst (pc' := 66) X dX8_daysUntilMould_65 rfl ?_
        refine z_S_void4 (pc' := 69) X Y_X8_lays q2155 dX8_daysUntilMould_66 rfl (by decide) (Nat.le_refl _) (Nat.le_refl _) (Nat.le_of_ble_eq_true rfl) (c_X8_lays _ _ _ _ 0 0 4 1 (by decide) (by decide) (by decide) (by decide) (by decide)) (fun M66 hp66 hR66 => ?_)
        subst hp66
        have ea : mcopy Mx 4 0 1 0 321 0 = Mx 0 := copy_n (by decide)
        have hAe : mRep (mcopy Mx 4 0 1 0 321) A := by
          refine hA0.gen (S' := A.1) (copy_1 (M := Mx) (r1 := 4) (a := 0) (hS0.congr (fun j x y => ?_))) ?_ ?_ ?_ ?_
          · show Mx 4 (0 + j) = _
            rw [hr 4 (by decide) (by decide) (by decide), Int.zero_add]
            unfold mcopy
            rw [if_pos ⟨rfl, by omega, by omega⟩, show 0 + (j - 0) = j by omega]
          · rw [ea]; exact ⟨h0 0 (by decide), h0 1 (by decide), h0 2 (by decide)⟩
          · rw [copy_n (by decide), hr 2 (by decide) (by decide) (by decide), copy_n (by decide)]
          · rw [copy_n (by decide), hr 3 (by decide) (by decide) (by decide), copy_n (by decide)]
          · rw [copy_n (by decide), hr 7 (by decide) (by decide) (by decide), copy_n (by decide)]
        have ea3 : mcopy Mx 4 0 1 0 321 0 3 = 0 := by rw [ea, h0 3 (by decide), mset_s]
        refine z_aload_n (pc' := 70) X dX8_daysUntilMould_69 rfl rfl ?_
        have hv70 := hR66 0 4
        refine z_mget (pc' := 73) X 11 rfl (by decide) q2074 rfl dX8_daysUntilMould_70 rfl ?_
        refine z_if_ne (tgt := 80) (pc' := 76) X (by first | assumption | omega) dX8_daysUntilMould_73 rfl (by decide) (fun c73 => ?_) (fun c73 => ?_)
        · refine z_iload_n (pc' := 81) X dX8_daysUntilMould_80 rfl rfl ?_
          refine z_ireturn X dX8_daysUntilMould_81 (Nat.le_refl _) (Nat.le_refl _) (fun _ hh => ⟨_, hh, _, rfl, ?_, ?_⟩)
          · first | assumption | omega
          · refine ⟨ea3, Or.inr ⟨rfl, ?_, hAe⟩⟩
            rw [ea] at c73
            first
              | exact hu.elim (fun q => absurd q.1 c73) (fun q => q.2)
              | (rcases hu with ⟨a, b⟩ | ⟨a, b⟩
                 · first
                     | (rw [show (60 - d).toNat = 0 by omega] at b; exact b)
                     | exact absurd a (by omega)
                 · exact absurd c73 a)
        · refine z_iconst (pc' := 77) X dX8_daysUntilMould_76 rfl ?_
          refine z_goto (tgt := 81) X dX8_daysUntilMould_77 (by decide) ?_
          refine z_ireturn X dX8_daysUntilMould_81 (Nat.le_refl _) (Nat.le_refl _) (fun _ hh => ⟨_, hh, _, rfl, ?_, ?_⟩)
          · first | assumption | omega
          · refine ⟨ea3, Or.inr ⟨rfl, ?_, hAe⟩⟩
            rw [ea] at c73
            first
              | exact hu.elim (fun q => absurd q.1 c73) (fun q => q.2)
              | (rcases hu with ⟨a, b⟩ | ⟨a, b⟩
                 · first
                     | (rw [show (60 - d).toNat = 0 by omega] at b; exact b)
                     | exact absurd a (by omega)
                 · exact absurd c73 a)
      · refine z_aload_n (pc' := 32) X dX8_daysUntilMould_31 rfl rfl ?_
        have hv32 := hR25 0 4
        refine z_mget (pc' := 35) X 11 rfl (by decide) q2074 rfl dX8_daysUntilMould_32 rfl ?_
        refine z_if_ne (tgt := 56) (pc' := 38) X (by first | assumption | omega) dX8_daysUntilMould_35 rfl (by decide) (fun c35 => ?_) (fun c35 => ?_)
        · refine z_aload_n (pc' := 57) X dX8_daysUntilMould_56 rfl rfl ?_
          refine z_mget (pc' := 60) X 5 rfl (by decide) q2068 rfl dX8_daysUntilMould_57 rfl ?_
          refine z_iconst (pc' := 61) X dX8_daysUntilMould_60 rfl ?_
          refine z_aload_n (pc' := 62) X dX8_daysUntilMould_61 rfl rfl ?_
          refine z_mget (pc' := 65) X 0 rfl (by decide) q2063 rfl dX8_daysUntilMould_62 rfl ?_
          refine z_iconst (pc' := 66) X dX8_daysUntilMould_65 rfl ?_
          refine z_S_void4 (pc' := 69) X Y_X8_lays q2155 dX8_daysUntilMould_66 rfl (by decide) (Nat.le_refl _) (Nat.le_refl _) (Nat.le_of_ble_eq_true rfl) (c_X8_lays _ _ _ _ 0 0 4 1 (by decide) (by decide) (by decide) (by decide) (by decide)) (fun M66 hp66 hR66 => ?_)
          subst hp66
          have ea : mcopy Mx 4 0 1 0 321 0 = Mx 0 := copy_n (by decide)
          have hAe : mRep (mcopy Mx 4 0 1 0 321) A := by
            refine hA0.gen (S' := A.1) (copy_1 (M := Mx) (r1 := 4) (a := 0) (hS0.congr (fun j x y => ?_))) ?_ ?_ ?_ ?_
            · show Mx 4 (0 + j) = _
              rw [hr 4 (by decide) (by decide) (by decide), Int.zero_add]
              unfold mcopy
              rw [if_pos ⟨rfl, by omega, by omega⟩, show 0 + (j - 0) = j by omega]
            · rw [ea]; exact ⟨h0 0 (by decide), h0 1 (by decide), h0 2 (by decide)⟩
            · rw [copy_n (by decide), hr 2 (by decide) (by decide) (by decide), copy_n (by decide)]
            · rw [copy_n (by decide), hr 3 (by decide) (by decide) (by decide), copy_n (by decide)]
            · rw [copy_n (by decide), hr 7 (by decide) (by decide) (by decide), copy_n (by decide)]
          have ea3 : mcopy Mx 4 0 1 0 321 0 3 = 0 := by rw [ea, h0 3 (by decide), mset_s]
          refine z_aload_n (pc' := 70) X dX8_daysUntilMould_69 rfl rfl ?_
          have hv70 := hR66 0 4
          refine z_mget (pc' := 73) X 11 rfl (by decide) q2074 rfl dX8_daysUntilMould_70 rfl ?_
          refine z_if_ne (tgt := 80) (pc' := 76) X (by first | assumption | omega) dX8_daysUntilMould_73 rfl (by decide) (fun c73 => ?_) (fun c73 => ?_)
          · refine z_iload_n (pc' := 81) X dX8_daysUntilMould_80 rfl rfl ?_
            refine z_ireturn X dX8_daysUntilMould_81 (Nat.le_refl _) (Nat.le_refl _) (fun _ hh => ⟨_, hh, _, rfl, ?_, ?_⟩)
            · first | assumption | omega
            · refine ⟨ea3, Or.inr ⟨rfl, ?_, hAe⟩⟩
              rw [ea] at c73
              first
                | exact hu.elim (fun q => absurd q.1 c73) (fun q => q.2)
                | (rcases hu with ⟨a, b⟩ | ⟨a, b⟩
                   · first
                       | (rw [show (60 - d).toNat = 0 by omega] at b; exact b)
                       | exact absurd a (by omega)
                   · exact absurd c73 a)
          · refine z_iconst (pc' := 77) X dX8_daysUntilMould_76 rfl ?_
            refine z_goto (tgt := 81) X dX8_daysUntilMould_77 (by decide) ?_
            refine z_ireturn X dX8_daysUntilMould_81 (Nat.le_refl _) (Nat.le_refl _) (fun _ hh => ⟨_, hh, _, rfl, ?_, ?_⟩)
            · first | assumption | omega
            · refine ⟨ea3, Or.inr ⟨rfl, ?_, hAe⟩⟩
              rw [ea] at c73
              first
                | exact hu.elim (fun q => absurd q.1 c73) (fun q => q.2)
                | (rcases hu with ⟨a, b⟩ | ⟨a, b⟩
                   · first
                       | (rw [show (60 - d).toNat = 0 by omega] at b; exact b)
                       | exact absurd a (by omega)
                   · exact absurd c73 a)
        · refine z_iload_n (pc' := 39) X dX8_daysUntilMould_38 rfl rfl ?_
          refine z_aload_n (pc' := 40) X dX8_daysUntilMould_39 rfl rfl ?_
          refine z_V_int0 (pc' := 43) X rfl Y_X8_passesDay q2378 dX8_daysUntilMould_40 rfl (by decide) (Nat.le_refl _) (Nat.le_refl _) (Nat.le_of_ble_eq_true rfl) (c_X8_passesDay _ _ _ _ Sx (999 + d) P Q hSx hkx (by omega) hDP) (fun r40 M40 hr40 hp40 hR40 => ?_)
          obtain ⟨p1, p2, p3, p4, p5⟩ := hp40
          have hLb := nLost_b (S := Sx) hkx.1.1.2.2.1.1 hkx.2.1 hSx.2.1.2.1
          have p3b := hR40 0 4
          refine z_if_ge (tgt := 50) (pc' := 46) X (by first | assumption | omega) dX8_daysUntilMould_43 rfl (by decide) (fun c43 => ?_) (fun c43 => ?_)
          · refine z_iconst (pc' := 51) X dX8_daysUntilMould_50 rfl ?_
            refine z_iadd (pc' := 52) X dX8_daysUntilMould_51 rfl ?_
            refine z_istore_n (pc' := 53) X dX8_daysUntilMould_52 rfl (by decide) rfl ?_
            dsimp only [List.set]
            refine z_goto (tgt := 25) X dX8_daysUntilMould_53 (by decide) ?_
            have hux : untilN d (60 - d).toNat Sx = untilN 0 60 A.1 := hu.elim (fun q => q.2) (fun q => absurd (show Mx 0 4 = 0 by omega) q.1)
            rw [show (60 - d).toNat = (60 - (d + 1)).toNat + 1 by omega, untilN_s] at hux
            refine ZP.wk (L' := [some (vR (ma 0)), some (vI _)]) (And.intro rfl (And.intro rfl (trivial))) ?_
            exact ih25 (d + 1) _ (nightS Sx) (by omega) (by exact p2) (by have hk2 := nightS_ok hkx; rw [show (999 : Int) + d + 1 = 999 + (d + 1) by omega] at hk2; exact hk2) (by exact (Classical.em (nNew Sx = 0)).elim (fun hz => Or.inl ⟨p3.trans hz, by rw [if_pos hz] at hux; exact hux⟩) (fun hz => Or.inr ⟨by rw [p3]; exact hz, by rw [if_neg hz] at hux; exact hux⟩)) (by exact fun j hj => (p4 j hj).trans (h0 j hj)) (by exact fun q x y z => (p5 q x y z).trans (hr q x y z)) (by omega)
          · omega
  refine ZP.wk (L' := [some (vR (ma 0)), some (vI _)]) (And.intro rfl (And.intro rfl (trivial))) ?_
  exact loop25 _ 0 _ A.1 (by decide) (by rw [mset_r (by decide), z1]; exact hS0) (by rw [show (999 : Int) + 0 = 999 by decide]; exact hkS) (by exact Or.inl ⟨mset_s, rfl⟩) (by exact fun j hj => by rw [mset_k hj, copy_n (by decide)]) (by exact fun q x y z => by rw [mset_r x]) (Nat.lt_succ_self _)
end M14

/-! THE MODEL: the mean of the damps -/
section M28
/-- what the library's laws of doubles give (shown in the last part: a round of this workbench does not import them) -/
def DblFacts : Prop := (∀ z w : Int, 0 ≤ z → 0 ≤ w → z + w ≤ 100000 → FP.dadd (FP.i2d (jI z)) (FP.i2d (jI w)) = FP.i2d (jI (z + w))) ∧ (∀ z n : Int, 0 < n → n ≤ 100000 → vf_n64 (FP.ddiv (FP.i2d (jI z)) (FP.i2d (jI n)))) ∧ ∀ z : Int, vf_n64 (FP.i2d (jI z))
theorem i2d_0 : FP.i2d (jI 0) = FP.dconst0 := by decide +kernel
def meanD (S : St) : UInt64 := if S.2.1.length = 0 then FP.dconst0 else FP.ddiv (FP.i2d (jI (lsum (fun b => b.2.2.1) S.2.1))) (FP.i2d (jI S.2.1.length))
def mDbl (l : Launch) (y : MethodName) (cy : ByteArray) (mL : Nat) (dy : Nat) (vs : List Value) (g : zG) (ma : Nat → Nat) (M : MM) (P : UInt64 → MM → Prop) : Prop :=
  ∀ h, mW ma M h → zMet l y cy mL (some .double) dy 0 0 vs g h (fun v h' => ∃ M', mF ma h M' h' ∧ ∃ x, v = some (.double x) ∧ P x M')
theorem mDbl.mk {l : Launch} {y : MethodName} {cy : ByteArray} {mL : Nat} {dy : Nat} {vs : List Value} {g : zG} {ma : Nat → Nat} {M : MM} {P : UInt64 → MM → Prop} {L0 : List (Option Value)} (hy : plainName y.cls = true) (hcat : vs.all (fun v => v.category == 1) = true) (hlen : (lg_sl vs).length ≤ mL) (hL0 : vs.map some ++ List.replicate (mL - vs.length) none = L0)
    (body : ∀ (C : ZC) (h : GH), zg C = g → C.2.1 = l → mR M → zX C cy y.cls mL (some .double) dy 0 0 (fun v h' => ∃ M', mF ma h M' h' ∧ ∃ x, v = some (.double x) ∧ P x M') → ZP C mL (mF ma h M) 0 0 L0 0 []) : mDbl l y cy mL dy vs g ma M P :=
  fun h hW => zMet.mk hy hcat hlen hL0 (fun C h1 h2 _ h3 => ZP.imp (fun x hx => by subst hx; exact ⟨hW, mO.rf⟩) (body C h h1 h2 hW.2.2.2 h3))
theorem Y_X8_meanDamp : zYV yX8_meanDamp cX8_meanDamp 4 (some .double) 0 := ⟨⟨q2579, q2580, q132, q2581⟩, by decide +kernel, by decide⟩
set_option maxRecDepth 100000 in
theorem c_X8_meanDamp (l : Launch) (g : zG) (ma : Nat → Nat) (M : MM) (A : Ab) (P Q : Int) (hD : DblFacts) (hA : mRep M A) (hk : okA P Q A) (hP : P ≤ 900000) (hQ : Q ≤ 9000000) : mDbl l yX8_meanDamp cX8_meanDamp 4 7 [vR (ma 0)] g ma M (fun x M' => x = meanD A.1 ∧ M' 0 3 = 0 ∧ mRep M' A) := by
  refine mDbl.mk (L0 := [some (vR (ma 0)), none, none, none]) (by decide) rfl (Nat.le_of_ble_eq_true rfl) rfl (fun C h hg hl hR X => ?_)
  subst hg hl
  obtain ⟨hS, hN, hH, hT⟩ := id hA
  obtain ⟨hkS, -, -, -⟩ := id hk
  obtain ⟨⟨kc1, -, kc3, kc4, kc5⟩, kb, kp, kq⟩ := id hkS
  have hI := hk.I hA hP hQ
  have hn := mI_n hI
  have hh0 : 0 ≤ M 0 0 ∧ M 0 0 ≤ 5 := ⟨by rw [hH.1]; omega, by rw [hH.1]; have := hH.2.1; omega⟩
  have s0 := sc_at hA (j := 0) (by unfold scI; omega)
  have s1 := sc_at hA (j := 1) (by unfold scI; omega)
  have hA0 : mRep (mset M 0 3 0) A := hA.num (by decide)
  have hS0 := hA0.1
  have hI0 : mI (mset M 0 3 0) := hk.I hA0 hP hQ
  have q4 := hS.2.1.1
  have q5 := hS.2.2.1.1
  have q6 := hS.2.2.2.1
  have p4 := hS0.2.1.1
  have p5 := hS0.2.2.1.1
  have p6 := hS0.2.2.2.1
  have n4 := mI_n hI0
  refine z_aload_n (pc' := 1) X dX8_meanDamp_0 rfl rfl ?_
  refine z_iconst (pc' := 2) X dX8_meanDamp_1 rfl ?_
  refine z_mput (pc' := 5) X 10 3 rfl (by decide) q2073 rfl rfl rfl (by first | assumption | omega) dX8_meanDamp_2 rfl (fun hR2 => ?_)
  refine z_dconst0 (pc' := 6) X dX8_meanDamp_5 rfl ?_
  refine z_dstore_n (pc' := 7) X dX8_meanDamp_6 rfl (by decide) rfl ?_
  dsimp only [List.set]
  refine z_iconst (pc' := 8) X dX8_meanDamp_7 rfl ?_
  refine z_istore_n (pc' := 9) X dX8_meanDamp_8 rfl (by decide) rfl ?_
  dsimp only [List.set]
  have loop9 : ∀ (N : Nat) (k : Int), (0 ≤ k ∧ k ≤ mset M 0 3 0 1 4) → (mset M 0 3 0 1 4 - k).toNat < N → ZP C 4 (mF ma h (mset M 0 3 0)) 0 0 [some (vR (ma 0)), some (.double (FP.i2d (jI (zsum (fun j => mB (mset M 0 3 0) j 2) k)))), none, some (vI k)] 9 [] := by
    intro N
    induction N with
    | zero => intro k hk1 hN; exact absurd hN (Nat.not_lt_zero _)
    | succ N ih9 =>
      intro k hk1 hN
      refine ZP.fact (P := mR (mset M 0 3 0)) (fun _ h => h.1.2.2.2) (fun hR9 => ?_)
      have hz := zsum_le (f := fun j => mB (mset M 0 3 0) j 2) (k := k) (b := 99) hk1.1 (fun j a c => by have := (mI_b hI0 (p := j) ⟨a, by omega⟩).2.2.1; exact this)
      refine z_iload_n (pc' := 10) X dX8_meanDamp_9 rfl rfl ?_
      refine z_aload_n (pc' := 11) X dX8_meanDamp_10 rfl rfl ?_
      refine z_mget (pc' := 14) X 0 rfl (by decide) q2063 rfl dX8_meanDamp_11 rfl ?_
      refine z_iconst (pc' := 15) X dX8_meanDamp_14 rfl ?_
      refine z_mld (pc' := 16) X (r := 1) (by decide) (show 0 ≤ _ ∧ _ < (321 : Int) by omega) dX8_meanDamp_15 rfl (fun hv15 => ?_)
      refine z_icmp_ge (tgt := 35) (pc' := 19) X (by first | assumption | omega) (by first | assumption | omega) dX8_meanDamp_16 rfl (by decide) (fun c16 => ?_) (fun c16 => ?_)
      · refine z_aload_n (pc' := 36) X dX8_meanDamp_35 rfl rfl ?_
        refine z_mget (pc' := 39) X 0 rfl (by decide) q2063 rfl dX8_meanDamp_36 rfl ?_
        refine z_iconst (pc' := 40) X dX8_meanDamp_39 rfl ?_
        refine z_mld (pc' := 41) X (r := 1) (by decide) (show 0 ≤ _ ∧ _ < (321 : Int) by omega) dX8_meanDamp_40 rfl (fun hv40 => ?_)
        refine z_if_ne (tgt := 48) (pc' := 44) X (by first | assumption | omega) dX8_meanDamp_41 rfl (by decide) (fun c41 => ?_) (fun c41 => ?_)
        · refine z_dload_n (pc' := 49) X dX8_meanDamp_48 rfl rfl ?_
          refine z_aload_n (pc' := 50) X dX8_meanDamp_49 rfl rfl ?_
          refine z_mget (pc' := 53) X 0 rfl (by decide) q2063 rfl dX8_meanDamp_50 rfl ?_
          refine z_iconst (pc' := 54) X dX8_meanDamp_53 rfl ?_
          refine z_mld (pc' := 55) X (r := 1) (by decide) (show 0 ≤ _ ∧ _ < (321 : Int) by omega) dX8_meanDamp_54 rfl (fun hv54 => ?_)
          refine z_i2d (pc' := 56) X dX8_meanDamp_55 rfl ?_
          refine z_ddiv (pc' := 57) X dX8_meanDamp_56 rfl (hD.2.1 _ _ (by omega) (by omega)) ?_
          refine z_dreturn X dX8_meanDamp_57 (Nat.le_refl _) (Nat.le_refl _) (fun _ hh => ⟨_, hh, _, rfl, ?_⟩)
          · have hl0 : ¬ A.1.2.1.length = 0 := by omega
            have ek : k = (A.1.2.1.length : Int) := by omega
            have es : zsum (fun j => mB (mset M 0 3 0) j 2) k = lsum (fun b => b.2.2.1) A.1.2.1 := by
              rw [ek]
              exact zsum_l (fun i b hi => (hS0.2.1.2.2 i b hi).2.2.1)
            exact ⟨by unfold meanD; rw [if_neg hl0, es, p4], mset_s, hA0⟩
        · refine z_dconst0 (pc' := 45) X dX8_meanDamp_44 rfl ?_
          refine z_goto (tgt := 57) X dX8_meanDamp_45 (by decide) ?_
          refine z_dreturn X dX8_meanDamp_57 (Nat.le_refl _) (Nat.le_refl _) (fun _ hh => ⟨_, hh, _, rfl, ?_⟩)
          · have hl0 : A.1.2.1.length = 0 := by omega
            exact ⟨by unfold meanD; rw [if_pos hl0], mset_s, hA0⟩
      · refine z_dload_n (pc' := 20) X dX8_meanDamp_19 rfl rfl ?_
        refine z_aload_n (pc' := 21) X dX8_meanDamp_20 rfl rfl ?_
        refine z_iload_n (pc' := 22) X dX8_meanDamp_21 rfl rfl ?_
        refine z_iconst (pc' := 23) X dX8_meanDamp_22 rfl ?_
        refine z_V_fun2 (pc' := 26) X rfl Y_X8_bale q2194 dX8_meanDamp_23 rfl (by decide) (Nat.le_refl _) (Nat.le_refl _) (Nat.le_of_ble_eq_true rfl) (c_X8_bale _ _ _ _ _ _ (by first | assumption | omega) (by first | assumption | omega)) (fun r23 hr23 hp23 => ?_)
        subst hp23
        have hb2 := (mI_b hI0 (p := k) (by omega)).2.2.1
        refine z_i2d (pc' := 27) X dX8_meanDamp_26 rfl ?_
        refine z_dadd (pc' := 28) X dX8_meanDamp_27 rfl (by rw [hD.1 _ _ hz.1 hb2.1 (by omega)]; exact hD.2.2 _) ?_
        rw [hD.1 _ _ hz.1 hb2.1 (by omega), ← zsum_s (f := fun j => mB (mset M 0 3 0) j 2) hk1.1]
        refine z_dstore_n (pc' := 29) X dX8_meanDamp_28 rfl (by decide) rfl ?_
        dsimp only [List.set]
        refine z_iinc (pc' := 32) X dX8_meanDamp_29 rfl (by decide) rfl rfl ?_
        dsimp only [List.set]
        refine z_goto (tgt := 9) X dX8_meanDamp_32 (by decide) ?_
        refine ZP.wk (L' := [some (vR (ma 0)), some (.double _), none, some (vI _)]) (And.intro rfl (And.intro rfl (And.intro rfl (trivial)))) ?_
        exact ih9 _ (by omega) (by omega)
  rw [show FP.dconst0 = FP.i2d (jI (zsum (fun j => mB (mset M 0 3 0) j 2) 0)) by rw [zsum_0]; exact i2d_0.symm]
  refine ZP.wk (L' := [some (vR (ma 0)), some (.double _), none, some (vI _)]) (And.intro rfl (And.intro rfl (And.intro rfl (trivial)))) ?_
  exact loop9 _ 0 (by omega) (Nat.lt_succ_self _)
end M28

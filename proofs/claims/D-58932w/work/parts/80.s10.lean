/-! SHARES -/
section ZS10
theorem shG_0 {f : Int → Int} (h : okT f) {n : Int} (hn : 0 ≤ n) {j : Int} : shG f n 0 j = mQuo f n j ∧ shR f n 0 j = mRem f n j := by
  have : 0 ≤ ahd (fun i => mRem f n i) j := by
    unfold ahd
    have z4 : ∀ f : Int → Int, zsum f 4 = 0 + f 0 + f 1 + f 2 + f 3 := fun f => rfl
    rw [z4]
    have a : ∀ o : Int, 0 ≤ (if mRem f n j < mRem f n o ∨ (mRem f n o = mRem f n j ∧ o < j) then (1 : Int) else 0) := fun o => by split <;> decide
    have a0 := a 0
    have a1 := a 1
    have a2 := a 2
    have a3 := a 3
    omega
  unfold shG shR
  rw [if_neg (by omega), if_neg (by omega), Int.add_zero]
  exact ⟨rfl, rfl⟩
theorem shG_s {f : Int → Int} {n t F j : Int} (hF : ahd (fun i => mRem f n i) F = t) (hi : 0 ≤ F ∧ F < 4) (hj : 0 ≤ j ∧ j < 4) : shG f n (t + 1) j = iup (shG f n t) F (shG f n t F + 1) j ∧ shR f n (t + 1) j = iup (shR f n t) F (-1) j := by
  by_cases e : j = F
  · rw [e, iup_s, iup_s]
    unfold shG shR
    rw [if_pos (by omega), if_neg (by omega), if_pos (by omega)]
    exact ⟨by omega, rfl⟩
  · rw [iup_n e, iup_n e]
    have hne : ahd (fun i => mRem f n i) j ≠ t := fun hh => by
      by_cases c : mRem f n F < mRem f n j ∨ (mRem f n j = mRem f n F ∧ j < F)
      · have := ahd_lt (r := fun i => mRem f n i) hj c
        omega
      · have := ahd_lt (r := fun i => mRem f n i) (i := F) (j := j) hi (by show mRem f n j < mRem f n F ∨ (mRem f n F = mRem f n j ∧ F < j); omega)
        omega
    unfold shG shR
    by_cases c : ahd (fun i => mRem f n i) j < t
    · rw [if_pos c, if_pos c, if_pos (by omega), if_pos (by omega)]
      exact ⟨rfl, rfl⟩
    · rw [if_neg c, if_neg c, if_neg (by omega), if_neg (by omega)]
      exact ⟨rfl, rfl⟩
theorem iup_c {f f' : Int → Int} {i z : Int} (h : ∀ j, 0 ≤ j → j < 4 → f j = f' j) : ∀ j, 0 ≤ j → j < 4 → iup f i z j = iup f' i z j := fun j a b => by
  unfold iup
  split
  · rfl
  · exact h j a b
theorem Y_X1_shares : zYS yX1_shares cX1_shares 8 (some (FieldType.array FieldType.int)) 2 := ⟨⟨q1284, q112, q1285⟩, by decide +kernel, by decide⟩
set_option maxRecDepth 100000 in
theorem c_X1_shares (l : Launch) (g : zG) (h : GH) (q0 : Nat) (f : Int → Int) (dd n : Int) (hm : mxA h 70 q0 (fun j => f (8 + j)) dd) (hT : okT f) (hfb : ∀ j, 0 ≤ j → j < 4 → 0 ≤ f (8 + j) ∧ f (8 + j) ≤ 2000000) (hn : 0 ≤ n ∧ n ≤ 200) : zMet l yX1_shares cX1_shares 8 (some (FieldType.array FieldType.int)) 71 2 8 [vR q0, vI n] g h (fun v h' => ∃ q : Nat, v = some (vR q) ∧ h q = none ∧ hF h noF h' ∧ ∃ sf : Int → Int, h' q = some (zAi 10 4 sf) ∧ ∀ j, 0 ≤ j → j < 4 → sf j = mShare f n j) := by
  refine zMet.mk (L0 := [some (vR q0), some (vI n), none, none, none, none, none, none]) (by decide) rfl (Nat.le_of_ble_eq_true rfl) rfl (fun C hg hl hnm X => ?_)
  subst hg hl
  have hT4 : 1 ≤ mT f ∧ mT f ≤ 8000000 := by unfold mT; have := hT; unfold okT at this; have b0 : 0 ≤ f 8 ∧ f 8 ≤ 2000000 := hfb 0 (by decide) (by decide); have b1 : 0 ≤ f 9 ∧ f 9 ≤ 2000000 := hfb 1 (by decide) (by decide); have b2 : 0 ≤ f 10 ∧ f 10 ≤ 2000000 := hfb 2 (by decide) (by decide); have b3 : 0 ≤ f 11 ∧ f 11 ≤ 2000000 := hfb 3 (by decide) (by decide); omega
  have hlb := mLeft_b hT hn.1
  have hrm : ∀ j, mRem f n j < 8000001 := fun j => Int.lt_of_lt_of_le (Int.emod_lt_of_pos _ (by omega)) (by omega)
  have hq4 := fun j a b => (mLeft_b hT hn.1).2.2 j a b
  have hf4 : ∀ j, 0 ≤ j → j < 4 → 0 ≤ n * f (8 + j) ∧ n * f (8 + j) ≤ 400000000 := fun j a b => by
    have := hfb j a b
    exact mulb (A := 200) (B := 2000000) (by omega) (by omega)
  refine z_iconst (pc' := 1) X dX1_shares_0 rfl ?_
  refine z_newi1 (pc' := 3) X (N := 4) (by first | decide | omega) dX1_shares_1 rfl (by omega) (by omega) (fun q1 h1 n1 e1 => ?_)
  have g1 := (congrFun e1 q1).trans hset_s
  have w1 : hF h noF h1 := by rw [e1]; exact hF.rf.new n1
  have hq1 : h q1 = none := n1
  refine z_astore_n (pc' := 4) X dX1_shares_3 rfl (by decide) rfl ?_
  dsimp only [List.set]
  refine z_iconst (pc' := 5) X dX1_shares_4 rfl ?_
  refine z_newi1 (pc' := 7) X (N := 4) (by first | decide | omega) dX1_shares_5 rfl (by omega) (by omega) (fun q2 h2 n2 e2 => ?_)
  have g2 := (congrFun e2 q2).trans hset_s
  have fa3 := (congrFun e2 _).trans (hset_f g1 n2)
  have w2 : hF h noF h2 := by rw [e2]; exact w1.new n2
  have hq2 : h q2 = none := w1.1 _ n2
  have hne : q1 ≠ q2 := fun hh => by rw [hh, n2] at g1; cases g1
  refine z_astore_n (pc' := 8) X dX1_shares_7 rfl (by decide) rfl ?_
  dsimp only [List.set]
  refine z_iconst (pc' := 9) X dX1_shares_8 rfl ?_
  refine z_istore (pc' := 11) X dX1_shares_9 rfl (by decide) rfl ?_
  dsimp only [List.set]
  refine z_iconst (pc' := 12) X dX1_shares_11 rfl ?_
  refine z_istore (pc' := 14) X dX1_shares_12 rfl (by decide) rfl ?_
  dsimp only [List.set]
  have loop14 : ∀ (N : Nat) (all k : Int) , (0 ≤ k ∧ k ≤ 4) → (all = zsum (fun j => f (8 + j)) k) → (4 - k).toNat < N → ZP C 8 (zAt h2) (2) (8) [some (vR q0), some (vI n), some (vR q1), some (vR q2), some (vI all), some (vI k), none, none] 14 [] := by
    intro N
    induction N with
    | zero => intro all k  hb hs hN; exact absurd hN (Nat.not_lt_zero _)
    | succ N ih14 =>
      intro all k  hb hs hN
      refine z_iload (pc' := 16) X dX1_shares_14 rfl rfl ?_
      refine z_iconst (pc' := 17) X dX1_shares_16 rfl ?_
      refine z_icmp_ge (tgt := 37) (pc' := 20) X (by first | assumption | omega) (by first | assumption | omega) dX1_shares_17 rfl (by decide) (fun c17 => ?_) (fun c17 => ?_)
      · refine z_iload_n (pc' := 38) X dX1_shares_37 rfl rfl ?_
        refine z_istore (pc' := 40) X dX1_shares_38 rfl (by decide) rfl ?_
        dsimp only [List.set]
        refine z_iconst (pc' := 41) X dX1_shares_40 rfl ?_
        refine z_istore (pc' := 43) X dX1_shares_41 rfl (by decide) rfl ?_
        dsimp only [List.set]
        have loop43 : ∀ (N : Nat) (lf k : Int) (g1f g2f : Int → Int) (h43l : GH), (0 ≤ k ∧ k ≤ 4) → (hF h noF h43l) → (h43l q1 = some (zAi 10 4 g1f)) → (h43l q2 = some (zAi 10 4 g2f)) → (∀ j, 0 ≤ j → j < k → g1f j = mQuo f n j ∧ g2f j = mRem f n j) → (lf = n - zsum (fun j => mQuo f n j) k) → (4 - k).toNat < N → ZP C 8 (zAt h43l) (2) (8) [some (vR q0), some (vI n), some (vR q1), some (vR q2), some (vI (mT f)), some (vI lf), some (vI k), none] 43 [] := by
          intro N
          induction N with
          | zero => intro lf k g1f g2f h43l hb2 hw hA1 hA2 hG hl hN; exact absurd hN (Nat.not_lt_zero _)
          | succ N ih43 =>
            intro lf k g1f g2f h43l hb2 hw hA1 hA2 hG hl hN
            have hp9 := fun a => hf4 k hb2.1 a
            have hq9 := fun a => hq4 k hb2.1 a
            refine z_iload (pc' := 45) X dX1_shares_43 rfl rfl ?_
            refine z_iconst (pc' := 46) X dX1_shares_45 rfl ?_
            refine z_icmp_ge (tgt := 92) (pc' := 49) X (by first | assumption | omega) (by first | assumption | omega) dX1_shares_46 rfl (by decide) (fun c46 => ?_) (fun c46 => ?_)
            · have loop92 : ∀ (N : Nat) (t : Int) (g1c g2c : Int → Int) (h92l : GH), (0 ≤ t ∧ t ≤ mLeft f n) → (hF h noF h92l) → (h92l q1 = some (zAi 10 4 g1c)) → (h92l q2 = some (zAi 10 4 g2c)) → (∀ j, 0 ≤ j → j < 4 → g1c j = shG f n t j ∧ g2c j = shR f n t j) → (mLeft f n - t).toNat < N → ZP C 8 (zAt h92l) (2) (8) [some (vR q0), some (vI n), some (vR q1), some (vR q2), some (vI (mT f)), some (vI (mLeft f n - t)), none, none] 92 [] := by
                intro N
                induction N with
                | zero => intro t g1c g2c h92l htb hwc hA1c hA2c hGc hN; exact absurd hN (Nat.not_lt_zero _)
                | succ N ih92 =>
                  intro t g1c g2c h92l htb hwc hA1c hA2c hGc hN
                  refine z_iload (pc' := 94) X dX1_shares_92 rfl rfl ?_
                  refine z_if_le (tgt := 154) (pc' := 97) X (by first | assumption | omega) dX1_shares_94 rfl (by decide) (fun c94 => ?_) (fun c94 => ?_)
                  · refine z_aload_n (pc' := 155) X dX1_shares_154 rfl rfl ?_
                    refine z_aret1 X (Or.inr ⟨_, rfl⟩) dX1_shares_155 (by omega) (by omega) ?_
                    exact ⟨q1, rfl, hq1, hwc, _, hA1c, fun j a b => by rw [(hGc j a b).1, show t = mLeft f n by omega]; rfl⟩
                  · refine z_iconst (pc' := 98) X dX1_shares_97 rfl ?_
                    refine z_istore (pc' := 100) X dX1_shares_98 rfl (by decide) rfl ?_
                    dsimp only [List.set]
                    refine z_iconst (pc' := 101) X dX1_shares_100 rfl ?_
                    refine z_istore (pc' := 103) X dX1_shares_101 rfl (by decide) rfl ?_
                    dsimp only [List.set]
                    have loop103 : ∀ (N : Nat) (F k3 : Int) , (1 ≤ k3 ∧ k3 ≤ 4) → (0 ≤ F ∧ F < k3) → (∀ j, 0 ≤ j → j < k3 → g2c j ≤ g2c F ∧ (j < F → g2c j < g2c F)) → (4 - k3).toNat < N → ZP C 8 (zAt h92l) (2) (8) [some (vR q0), some (vI n), some (vR q1), some (vR q2), some (vI (mT f)), some (vI (mLeft f n - t)), some (vI F), some (vI k3)] 103 [] := by
                      intro N
                      induction N with
                      | zero => intro F k3  hb3 hFx hmx hN; exact absurd hN (Nat.not_lt_zero _)
                      | succ N ih103 =>
                        intro F k3  hb3 hFx hmx hN
                        have hgr : ∀ j, 0 ≤ j → j < 4 → rng (g2c j) := fun j a b => by rw [(hGc j a b).2]; have := (hq4 j a b).1; have := hrm j; unfold shR rng; split <;> omega
                        have hgF := hgr F hFx.1 (by omega)
                        have hgk := hgr k3 (by omega)
                        refine z_iload (pc' := 105) X dX1_shares_103 rfl rfl ?_
                        refine z_iconst (pc' := 106) X dX1_shares_105 rfl ?_
                        refine z_icmp_ge (tgt := 135) (pc' := 109) X (by first | assumption | omega) (by first | assumption | omega) dX1_shares_106 rfl (by decide) (fun c106 => ?_) (fun c106 => ?_)
                        · refine z_aload_n (pc' := 136) X dX1_shares_135 rfl rfl ?_
                          refine z_iload (pc' := 138) X dX1_shares_136 rfl rfl ?_
                          refine z_dup2 (pc' := 139) X rfl rfl dX1_shares_138 rfl ?_
                          refine z_iald1 (pc' := 140) X hA1c (by first | assumption | omega) (by omega) dX1_shares_139 rfl ?_
                          refine z_iconst (pc' := 141) X dX1_shares_140 rfl ?_
                          refine z_iadd (pc' := 142) X dX1_shares_141 rfl ?_
                          refine z_iast1 (pc' := 143) X hA1c (by first | assumption | omega) (by omega) dX1_shares_142 rfl (fun h4 e4 => ?_)
                          have g4 := (congrFun e4 q1).trans hset_s
                          have fa5 := (congrFun e4 _).trans ((hset_n hne.symm).trans hA2c)
                          have w4 : hF h noF h4 := by rw [e4]; exact hwc.set (Or.inr hq1)
                          refine z_aload_n (pc' := 144) X dX1_shares_143 rfl rfl ?_
                          refine z_iload (pc' := 146) X dX1_shares_144 rfl rfl ?_
                          refine z_iconst (pc' := 147) X dX1_shares_146 rfl ?_
                          refine z_iast1 (pc' := 148) X fa5 (by first | assumption | omega) (by omega) dX1_shares_147 rfl (fun h6 e6 => ?_)
                          have g6 := (congrFun e6 q2).trans hset_s
                          have fa7 := (congrFun e6 _).trans ((hset_n hne).trans g4)
                          have w6 : hF h noF h6 := by rw [e6]; exact w4.set (Or.inr hq2)
                          refine z_iinc (pc' := 151) X dX1_shares_148 rfl (by decide) rfl rfl ?_
                          dsimp only [List.set]
                          refine z_goto (tgt := 92) X dX1_shares_151 (by decide) ?_
                          rw [show mLeft f n - t + -1 = mLeft f n - (t + 1) by omega]
                          refine ZP.wk (L' := [some (vR q0), some (vI n), some (vR q1), some (vR q2), some (vI _), some (vI _), none, none]) (And.intro rfl (And.intro rfl (And.intro rfl (And.intro rfl (And.intro rfl (And.intro rfl (trivial))))))) ?_
                          have hpk : ahd (fun i => mRem f n i) F = t := ahd_pick (g := g2c) (fun j a b => (hlb.2.2 j a b).1) (by omega) (fun j a b => (hGc j a b).2) (by omega) (fun j a b => hmx j a (by omega))
                          exact ZP.mono (by omega) (by omega) (ih92 (t + 1) _ _ h6 (by omega) w6 fa7 g6 (fun j a b => by have s := shG_s hpk ⟨hFx.1, by omega⟩ ⟨a, b⟩; exact ⟨((iup_c (fun j a b => (hGc j a b).1) j a b).trans (by rw [(hGc F hFx.1 (by omega)).1])).trans s.1.symm, (iup_c (fun j a b => (hGc j a b).2) j a b).trans s.2.symm⟩) (by omega))
                        · refine z_aload_n (pc' := 110) X dX1_shares_109 rfl rfl ?_
                          refine z_iload (pc' := 112) X dX1_shares_110 rfl rfl ?_
                          refine z_iald1 (pc' := 113) X hA2c (by first | assumption | omega) (by omega) dX1_shares_112 rfl ?_
                          refine z_aload_n (pc' := 114) X dX1_shares_113 rfl rfl ?_
                          refine z_iload (pc' := 116) X dX1_shares_114 rfl rfl ?_
                          refine z_iald1 (pc' := 117) X hA2c (by first | assumption | omega) (by omega) dX1_shares_116 rfl ?_
                          refine z_icmp_le (tgt := 125) (pc' := 120) X (by first | assumption | exact hgk (by omega)) (by first | assumption | exact hgk (by omega)) dX1_shares_117 rfl (by decide) (fun c117 => ?_) (fun c117 => ?_)
                          · refine z_iload (pc' := 127) X dX1_shares_125 rfl rfl ?_
                            refine z_istore (pc' := 129) X dX1_shares_127 rfl (by decide) rfl ?_
                            dsimp only [List.set]
                            refine z_iinc (pc' := 132) X dX1_shares_129 rfl (by decide) rfl rfl ?_
                            dsimp only [List.set]
                            refine z_goto (tgt := 103) X dX1_shares_132 (by decide) ?_
                            refine ZP.wk (L' := [some (vR q0), some (vI n), some (vR q1), some (vR q2), some (vI _), some (vI _), some (vI _), some (vI _)]) (And.intro rfl (And.intro rfl (And.intro rfl (And.intro rfl (And.intro rfl (And.intro rfl (And.intro rfl (And.intro rfl (trivial))))))))) ?_
                            exact ZP.mono (by omega) (by omega) (ih103 _ _   (by omega) (by omega) (fun j a b => (Decidable.em (j = k3)).elim (fun e => by subst e; omega) (fun e => by have := hmx j a (by omega); have := hmx F (by omega) (by omega); omega)) (by omega))
                          · refine z_iload (pc' := 122) X dX1_shares_120 rfl rfl ?_
                            refine z_goto (tgt := 127) X dX1_shares_122 (by decide) ?_
                            refine z_istore (pc' := 129) X dX1_shares_127 rfl (by decide) rfl ?_
                            dsimp only [List.set]
                            refine z_iinc (pc' := 132) X dX1_shares_129 rfl (by decide) rfl rfl ?_
                            dsimp only [List.set]
                            refine z_goto (tgt := 103) X dX1_shares_132 (by decide) ?_
                            refine ZP.wk (L' := [some (vR q0), some (vI n), some (vR q1), some (vR q2), some (vI _), some (vI _), some (vI _), some (vI _)]) (And.intro rfl (And.intro rfl (And.intro rfl (And.intro rfl (And.intro rfl (And.intro rfl (And.intro rfl (And.intro rfl (trivial))))))))) ?_
                            exact ZP.mono (by omega) (by omega) (ih103 _ _   (by omega) (by omega) (fun j a b => (Decidable.em (j = k3)).elim (fun e => by subst e; omega) (fun e => by have := hmx j a (by omega); have := hmx F (by omega) (by omega); omega)) (by omega))
                    refine ZP.wk (L' := [some (vR q0), some (vI n), some (vR q1), some (vR q2), some (vI _), some (vI _), some (vI _), some (vI _)]) (And.intro rfl (And.intro rfl (And.intro rfl (And.intro rfl (And.intro rfl (And.intro rfl (And.intro rfl (And.intro rfl (trivial))))))))) ?_
                    exact ZP.mono (by omega) (by omega) (loop103 _ _ _   (by omega) (by omega) (fun j a b => by obtain rfl : j = 0 := (by omega); exact ⟨Int.le_refl _, fun hh => absurd hh (Int.lt_irrefl _)⟩) (Nat.lt_succ_self _))
              have hk4 : k = 4 := by omega
              subst hk4
              have hlf : lf = mLeft f n - 0 := by rw [hl]; unfold mLeft; omega
              subst hlf
              refine ZP.wk (L' := [some (vR q0), some (vI n), some (vR q1), some (vR q2), some (vI _), some (vI _), none, none]) (And.intro rfl (And.intro rfl (And.intro rfl (And.intro rfl (And.intro rfl (And.intro rfl (trivial))))))) ?_
              exact ZP.mono (by omega) (by omega) (loop92 _ 0 g1f g2f h43l (by omega) hw hA1 hA2 (fun j a b => ⟨(hG j a b).1.trans (shG_0 hT hn.1).1.symm, (hG j a b).2.trans (shG_0 hT hn.1).2.symm⟩) (Nat.lt_succ_self _))
            · refine z_iload_n (pc' := 50) X dX1_shares_49 rfl rfl ?_
              refine z_aload_n (pc' := 51) X dX1_shares_50 rfl rfl ?_
              refine z_iload (pc' := 53) X dX1_shares_51 rfl rfl ?_
              refine z_callS0 (pc' := 56) X Y_X1_parts q1286 dX1_shares_53 rfl (Nat.le_of_ble_eq_true rfl) (by omega) (by omega) rfl rfl (Nat.le_of_ble_eq_true rfl) (c_X1_parts _ _ _ 70 q0 _ _ (hm.keep fun q ci fs _ he => hw.2 _ _ he fun x => x) (k) (by first | assumption | omega)) ?_
              dsimp only [zst]
              refine z_imul (pc' := 57) X dX1_shares_56 rfl ?_
              refine z_istore (pc' := 59) X dX1_shares_57 rfl (by decide) rfl ?_
              dsimp only [List.set]
              refine z_aload_n (pc' := 60) X dX1_shares_59 rfl rfl ?_
              refine z_iload (pc' := 62) X dX1_shares_60 rfl rfl ?_
              refine z_iload (pc' := 64) X dX1_shares_62 rfl rfl ?_
              refine z_iload (pc' := 66) X dX1_shares_64 rfl rfl ?_
              refine z_idivp (pc' := 67) X (by first | assumption | omega) (by omega) dX1_shares_66 rfl ?_
              refine z_iast1 (pc' := 68) X hA1 (by first | assumption | omega) (by omega) dX1_shares_67 rfl (fun h9 e9 => ?_)
              have g9 := (congrFun e9 q1).trans hset_s
              have fa10 := (congrFun e9 _).trans ((hset_n hne.symm).trans hA2)
              have w9 : hF h noF h9 := by rw [e9]; exact hw.set (Or.inr hq1)
              refine z_aload_n (pc' := 69) X dX1_shares_68 rfl rfl ?_
              refine z_iload (pc' := 71) X dX1_shares_69 rfl rfl ?_
              refine z_iload (pc' := 73) X dX1_shares_71 rfl rfl ?_
              refine z_iload (pc' := 75) X dX1_shares_73 rfl rfl ?_
              refine z_iremp (pc' := 76) X (by first | assumption | omega) (by omega) dX1_shares_75 rfl ?_
              refine z_iast1 (pc' := 77) X fa10 (by first | assumption | omega) (by omega) dX1_shares_76 rfl (fun h11 e11 => ?_)
              have g11 := (congrFun e11 q2).trans hset_s
              have fa12 := (congrFun e11 _).trans ((hset_n hne).trans g9)
              have w11 : hF h noF h11 := by rw [e11]; exact w9.set (Or.inr hq2)
              refine z_iload (pc' := 79) X dX1_shares_77 rfl rfl ?_
              refine z_aload_n (pc' := 80) X dX1_shares_79 rfl rfl ?_
              refine z_iload (pc' := 82) X dX1_shares_80 rfl rfl ?_
              refine z_iald1 (pc' := 83) X fa12 (by first | assumption | omega) (by omega) dX1_shares_82 rfl ?_
              refine z_isub (pc' := 84) X dX1_shares_83 rfl ?_
              refine z_istore (pc' := 86) X dX1_shares_84 rfl (by decide) rfl ?_
              dsimp only [List.set]
              refine z_iinc (pc' := 89) X dX1_shares_86 rfl (by decide) rfl rfl ?_
              dsimp only [List.set]
              refine z_goto (tgt := 43) X dX1_shares_89 (by decide) ?_
              refine ZP.wk (L' := [some (vR q0), some (vI n), some (vR q1), some (vR q2), some (vI _), some (vI _), some (vI _), none]) (And.intro rfl (And.intro rfl (And.intro rfl (And.intro rfl (And.intro rfl (And.intro rfl (And.intro rfl (trivial)))))))) ?_
              exact ZP.mono (by omega) (by omega) (ih43 _ _ _ _ h11 (by omega) w11 fa12 g11 (fun j a b => (Decidable.em (j = k)).elim (fun e => by rw [e]; exact ⟨iup_s, iup_s⟩) (fun e => by rw [iup_n e, iup_n e]; exact hG j a (by omega))) (by rw [zsum_s hb2.1, hl, show iup g1f _ _ _ = _ from iup_s]; show _ - mQuo f n k = _; omega) (by omega))
        have hk4 : k = 4 := by omega
        subst hk4
        have hall : all = mT f := hs.trans (by show 0 + f 8 + f 9 + f 10 + f 11 = f 8 + f 9 + f 10 + f 11; omega)
        subst hall
        refine ZP.wk (L' := [some (vR q0), some (vI n), some (vR q1), some (vR q2), some (vI _), some (vI _), some (vI _), none]) (And.intro rfl (And.intro rfl (And.intro rfl (And.intro rfl (And.intro rfl (And.intro rfl (And.intro rfl (trivial)))))))) ?_
        exact ZP.mono (by omega) (by omega) (loop43 _ _ _ (fun _ => 0) (fun _ => 0) h2 (by omega) w2 fa3 g2 (fun j a b => by omega) (by show n = n - 0; omega) (Nat.lt_succ_self _))
      · refine z_iload (pc' := 22) X dX1_shares_20 rfl rfl ?_
        refine z_aload_n (pc' := 23) X dX1_shares_22 rfl rfl ?_
        refine z_iload (pc' := 25) X dX1_shares_23 rfl rfl ?_
        refine z_callS0 (pc' := 28) X Y_X1_parts q1286 dX1_shares_25 rfl (Nat.le_of_ble_eq_true rfl) (by omega) (by omega) rfl rfl (Nat.le_of_ble_eq_true rfl) (c_X1_parts _ _ _ 70 q0 _ _ (hm.keep fun q ci fs _ he => w2.2 _ _ he fun x => x) (k) (by first | assumption | omega)) ?_
        dsimp only [zst]
        refine z_iadd (pc' := 29) X dX1_shares_28 rfl ?_
        refine z_istore (pc' := 31) X dX1_shares_29 rfl (by decide) rfl ?_
        dsimp only [List.set]
        refine z_iinc (pc' := 34) X dX1_shares_31 rfl (by decide) rfl rfl ?_
        dsimp only [List.set]
        refine z_goto (tgt := 14) X dX1_shares_34 (by decide) ?_
        refine ZP.wk (L' := [some (vR q0), some (vI n), some (vR q1), some (vR q2), some (vI _), some (vI _), none, none]) (And.intro rfl (And.intro rfl (And.intro rfl (And.intro rfl (And.intro rfl (And.intro rfl (trivial))))))) ?_
        exact ZP.mono (by omega) (by omega) (ih14 _ _   (by omega) (by rw [zsum_s hb.1, hs]) (by omega))
  refine ZP.wk (L' := [some (vR q0), some (vI n), some (vR q1), some (vR q2), some (vI _), some (vI _), none, none]) (And.intro rfl (And.intro rfl (And.intro rfl (And.intro rfl (And.intro rfl (And.intro rfl (trivial))))))) ?_
  exact ZP.mono (by omega) (by omega) (loop14 _ _ _   (by omega) rfl (Nat.lt_succ_self _))
end ZS10

/-! THE MODEL: the walk of the reader of mixes -/
section M20
theorem mxF_i {M : MM} {p : Int} (h : M 0 5 = p) : mxF M (mfill M 9 (4 * 0) 4 0) (mxI p (M 9)) := by
  refine ⟨by rw [mfill_r (by decide)]; exact h, ?_, fun j _ => by rw [mfill_r (by decide)], fun q _ b => mfill_r b⟩
  funext j
  show mfill M 9 (4 * 0) 4 0 9 j = fillF (M 9) 0 j
  unfold mfill fillF
  by_cases hj : 0 ≤ j ∧ j < 0 + 4
  · rw [if_pos ⟨rfl, hj⟩, if_pos hj]
  · rw [if_neg (fun x => hj x.2), if_neg hj]
theorem Y_X8_isMix : zYV yX8_isMix cX8_isMix 7 (some .boolean) 0 := ⟨⟨q2616, qs100, q132, q2617⟩, by decide +kernel, by decide⟩
set_option maxRecDepth 100000 in
theorem c_X8_isMix (l : Launch) (g : zG) (ma : Nat → Nat) (M : MM) (p : Int) (tx : List Int) (ht : tRep M tx) (hp : M 0 5 = p ∧ 0 ≤ p ∧ p ≤ tx.length) (hk : ∀ c ∈ tx, 32 ≤ c ∧ c ≤ 126) (hm : 0 ≤ M 0 6 ∧ M 0 6 ≤ 30) : mInt l yX8_isMix cX8_isMix 7 (some .boolean) 4 [vR (ma 0)] g ma M (fun r M' => r = (mxE tx p (M 9)).is ∧ M' 0 5 = (mxE tx p (M 9)).p ∧ (∀ j, j ≠ 5 → M' 0 j = M 0 j) ∧ (∀ q, q ≠ 0 → q ≠ 8 → q ≠ 9 → M' q = M q) ∧ (∀ s, 0 ≤ s → s < 4 → M' 8 (6 * M 0 6 + 1 + s) = (mxE tx p (M 9)).f s) ∧ M' 8 (6 * M 0 6 + 5) = (mxE tx p (M 9)).ds ∧ (∀ j, (j < 6 * M 0 6 + 1 ∨ 6 * M 0 6 + 5 < j) → M' 8 j = M 8 j) ∧ okC tx (mxE tx p (M 9))) := by
  refine mInt.mk (L0 := [some (vR (ma 0)), none, none, none, none, none, none]) (by decide) rfl (Nat.le_of_ble_eq_true rfl) rfl (fun C h hg hl hR X => ?_)
  subst hg hl
  obtain ⟨hp1, hp2⟩ := hp
  have hl2 := ht.1
  have hl3 := ht.2.1
  have htb := tS_b hk hp2.1
  refine z_iconst (pc' := 1) X dX8_isMix_0 rfl ?_
  refine z_istore_n (pc' := 2) X dX8_isMix_1 rfl (by decide) rfl ?_
  dsimp only [List.set]
  refine z_iconst (pc' := 3) X dX8_isMix_2 rfl ?_
  refine z_istore_n (pc' := 4) X dX8_isMix_3 rfl (by decide) rfl ?_
  dsimp only [List.set]
  refine z_iconst (pc' := 5) X dX8_isMix_4 rfl ?_
  refine z_istore_n (pc' := 6) X dX8_isMix_5 rfl (by decide) rfl ?_
  dsimp only [List.set]
  refine z_iconst (pc' := 7) X dX8_isMix_6 rfl ?_
  refine z_istore (pc' := 9) X dX8_isMix_7 rfl (by decide) rfl ?_
  dsimp only [List.set]
  refine z_iconst (pc' := 10) X dX8_isMix_9 rfl ?_
  refine z_istore (pc' := 12) X dX8_isMix_10 rfl (by decide) rfl ?_
  dsimp only [List.set]
  refine z_aload_n (pc' := 13) X dX8_isMix_12 rfl rfl ?_
  refine z_iconst (pc' := 14) X dX8_isMix_13 rfl ?_
  refine z_V_void1 (pc' := 17) X rfl Y_X8_clearsMix q2618 dX8_isMix_14 rfl (by decide) (Nat.le_refl _) (Nat.le_refl _) (Nat.le_of_ble_eq_true rfl) (c_X8_clearsMix _ _ _ _ 0 (by decide)) (fun M14 hp14 hR14 => ?_)
  subst hp14
  have loop17 : ∀ (N : Nat) (c : Cf) (Mx : MM) (n : Nat), (mxR tx n c = mxE tx p (M 9)) → (mxM tx c ≤ n) → (okC tx c) → (mxF M Mx c) → n < N → ZP C 7 (mF ma h (Mx)) 0 0 [some (vR (ma 0)), some (vI c.dp), some (vI c.ds), some (vI c.wa), some (vI c.is), some (vI c.mo), none] 17 [] := by
    intro N
    induction N with
    | zero => intro c Mx n hR hM hok hfr hN; exact absurd hN (Nat.not_lt_zero _)
    | succ N ih17 =>
      intro c Mx n hR hM hok hfr hN
      refine ZP.fact (P := mR (Mx)) (fun _ h => h.1.2.2.2) (fun hR17 => ?_)
      obtain ⟨kw, ki, kmo, hkd, hkds, hp6, -⟩ := id hok
      have htx : tRep Mx tx := ⟨(hfr.2.2.1 2 (by decide)).trans ht.1, ht.2.1, fun i c hi => by rw [hfr.2.2.2 7 (by decide) (by decide)]; exact ht.2.2 i c hi⟩
      have hfp : Mx 0 5 = c.p ∧ 0 ≤ c.p ∧ c.p ≤ tx.length := ⟨hfr.1, hp6.1, hp6.2.1⟩
      refine z_iload (pc' := 19) X dX8_isMix_17 rfl rfl ?_
      refine z_if_eq (tgt := 137) (pc' := 22) X (by first | assumption | omega) dX8_isMix_19 rfl (by decide) (fun c19 => ?_) (fun c19 => ?_)
      · have eE : mxE tx p (M 9) = c := hR.symm.trans (mxR_x (by omega))
        have hm6 : 0 ≤ Mx 0 6 ∧ Mx 0 6 ≤ 30 := by rw [hfr.2.2.1 6 (by decide)]; exact hm
        refine z_iconst (pc' := 138) X dX8_isMix_137 rfl ?_
        refine z_istore (pc' := 140) X dX8_isMix_138 rfl (by decide) rfl ?_
        dsimp only [List.set]
        have loop140 : ∀ (N : Nat) (k : Int), (0 ≤ k ∧ k ≤ 4) → (4 - k).toNat < N → ZP C 7 (mF ma h (toldM Mx c.f k)) 0 0 [some (vR (ma 0)), some (vI c.dp), some (vI c.ds), some (vI c.wa), some (vI c.is), some (vI c.mo), some (vI k)] 140 [] := by
          intro N
          induction N with
          | zero => intro k hkk hN; exact absurd hN (Nat.not_lt_zero _)
          | succ N ih140 =>
            intro k hkk hN
            refine ZP.fact (P := mR (toldM Mx c.f k)) (fun _ h => h.1.2.2.2) (fun hR140 => ?_)
            have hm6k : 0 ≤ toldM Mx c.f k 0 6 ∧ toldM Mx c.f k 0 6 ≤ 30 := by rw [toldM_r (by decide)]; exact hm6
            refine z_iload (pc' := 142) X dX8_isMix_140 rfl rfl ?_
            refine z_iconst (pc' := 143) X dX8_isMix_142 rfl ?_
            refine z_icmp_ge (tgt := 167) (pc' := 146) X (by first | assumption | omega) (by first | assumption | omega) dX8_isMix_143 rfl (by decide) (fun c143 => ?_) (fun c143 => ?_)
            · refine z_aload_n (pc' := 168) X dX8_isMix_167 rfl rfl ?_
              refine z_iconst (pc' := 169) X dX8_isMix_168 rfl ?_
              refine z_iload_n (pc' := 170) X dX8_isMix_169 rfl rfl ?_
              refine z_V_void2 (pc' := 173) X rfl Y_X8_isTold q2610 dX8_isMix_170 rfl (by decide) (Nat.le_refl _) (Nat.le_refl _) (Nat.le_of_ble_eq_true rfl) (c_X8_isTold _ _ _ _ 5 c.ds (by decide) (by omega) hm6k) (fun M170 hp170 hR170 => ?_)
              subst hp170
              refine z_iload (pc' := 175) X dX8_isMix_173 rfl rfl ?_
              refine z_zreturn X dX8_isMix_175 (by first | exact nar_0 | exact nar_1 | exact nar_b (by omega)) (Nat.le_refl _) (Nat.le_refl _) (fun _ hh => ⟨_, hh, _, rfl, ?_, ?_⟩)
              · first | assumption | omega
              · rw [eE]
                have e6 : toldM Mx c.f k 0 6 = M 0 6 := by rw [toldM_r (by decide)]; exact hfr.2.2.1 6 (by decide)
                have e6x : Mx 0 6 = M 0 6 := hfr.2.2.1 6 (by decide)
                rw [e6]
                obtain rfl : k = 4 := by omega
                refine ⟨rfl, ?_, fun j hj => ?_, fun q x y z => ?_, fun s x y => ?_, mset_s, fun j hj => ?_, hok⟩
                · rw [mset_r (by decide), toldM_r (by decide)]; exact hfr.1
                · rw [mset_r (by decide), toldM_r (by decide)]; exact hfr.2.2.1 j hj
                · rw [mset_r y, toldM_r y]; exact hfr.2.2.2 q x z
                · rw [mset_k (by omega)]; unfold toldM; rw [e6x, if_pos ⟨rfl, by omega, by omega⟩]; congr 1; omega
                · rw [mset_k (by omega)]; unfold toldM; rw [e6x, if_neg (by omega), hfr.2.2.2 8 (by decide) (by decide)]
            · refine z_aload_n (pc' := 147) X dX8_isMix_146 rfl rfl ?_
              refine z_iconst (pc' := 148) X dX8_isMix_147 rfl ?_
              refine z_iload (pc' := 150) X dX8_isMix_148 rfl rfl ?_
              refine z_iadd (pc' := 151) X dX8_isMix_150 rfl ?_
              refine z_aload_n (pc' := 152) X dX8_isMix_151 rfl rfl ?_
              refine z_mget (pc' := 155) X 15 rfl (by decide) q2078 rfl dX8_isMix_152 rfl ?_
              refine z_iload (pc' := 157) X dX8_isMix_155 rfl rfl ?_
              refine z_mld (pc' := 158) X (r := 9) (by decide) (show 0 ≤ _ ∧ _ < (20 : Int) by omega) dX8_isMix_157 rfl (fun hv157 => ?_)
              have e157 : toldM Mx c.f k 9 k = c.f k := by rw [toldM_r (by decide), hfr.2.1]
              rw [e157]
              rw [e157] at hv157
              refine z_V_void2 (pc' := 161) X rfl Y_X8_isTold q2610 dX8_isMix_158 rfl (by decide) (Nat.le_refl _) (Nat.le_refl _) (Nat.le_of_ble_eq_true rfl) (c_X8_isTold _ _ _ _ (1 + k) (c.f k) (by omega) (by omega) hm6k) (fun M158 hp158 hR158 => ?_)
              rw [toldM_s (by omega)] at hp158
              subst hp158
              refine z_iinc (pc' := 164) X dX8_isMix_161 rfl (by decide) rfl rfl ?_
              dsimp only [List.set]
              refine z_goto (tgt := 140) X dX8_isMix_164 (by decide) ?_
              refine ZP.wk (L' := [some (vR (ma 0)), some (vI c.dp), some (vI c.ds), some (vI c.wa), some (vI c.is), some (vI c.mo), some (vI _)]) (And.intro rfl (And.intro rfl (And.intro rfl (And.intro rfl (And.intro rfl (And.intro rfl (And.intro rfl (trivial)))))))) ?_
              exact ih140 _ (by omega) (by omega)
        refine ZP.imp (Φ' := mF ma h (toldM Mx c.f 0)) (fun _ hx => by rw [toldM_0]; exact hx) ?_
        refine ZP.wk (L' := [some (vR (ma 0)), some (vI c.dp), some (vI c.ds), some (vI c.wa), some (vI c.is), some (vI c.mo), some (vI _)]) (And.intro rfl (And.intro rfl (And.intro rfl (And.intro rfl (And.intro rfl (And.intro rfl (And.intro rfl (trivial)))))))) ?_
        exact loop140 _ _ (by decide) (Nat.lt_succ_self _)
      · refine z_iload (pc' := 24) X dX8_isMix_22 rfl rfl ?_
        refine z_if_eq (tgt := 137) (pc' := 27) X (by first | assumption | omega) dX8_isMix_24 rfl (by decide) (fun c24 => ?_) (fun c24 => ?_)
        · have eE : mxE tx p (M 9) = c := hR.symm.trans (mxR_x (by omega))
          have hm6 : 0 ≤ Mx 0 6 ∧ Mx 0 6 ≤ 30 := by rw [hfr.2.2.1 6 (by decide)]; exact hm
          refine z_iconst (pc' := 138) X dX8_isMix_137 rfl ?_
          refine z_istore (pc' := 140) X dX8_isMix_138 rfl (by decide) rfl ?_
          dsimp only [List.set]
          have loop140 : ∀ (N : Nat) (k : Int), (0 ≤ k ∧ k ≤ 4) → (4 - k).toNat < N → ZP C 7 (mF ma h (toldM Mx c.f k)) 0 0 [some (vR (ma 0)), some (vI c.dp), some (vI c.ds), some (vI c.wa), some (vI c.is), some (vI c.mo), some (vI k)] 140 [] := by
            intro N
            induction N with
            | zero => intro k hkk hN; exact absurd hN (Nat.not_lt_zero _)
            | succ N ih140 =>
              intro k hkk hN
              refine ZP.fact (P := mR (toldM Mx c.f k)) (fun _ h => h.1.2.2.2) (fun hR140 => ?_)
              have hm6k : 0 ≤ toldM Mx c.f k 0 6 ∧ toldM Mx c.f k 0 6 ≤ 30 := by rw [toldM_r (by decide)]; exact hm6
              refine z_iload (pc' := 142) X dX8_isMix_140 rfl rfl ?_
              refine z_iconst (pc' := 143) X dX8_isMix_142 rfl ?_
              refine z_icmp_ge (tgt := 167) (pc' := 146) X (by first | assumption | omega) (by first | assumption | omega) dX8_isMix_143 rfl (by decide) (fun c143 => ?_) (fun c143 => ?_)
              · refine z_aload_n (pc' := 168) X dX8_isMix_167 rfl rfl ?_
                refine z_iconst (pc' := 169) X dX8_isMix_168 rfl ?_
                refine z_iload_n (pc' := 170) X dX8_isMix_169 rfl rfl ?_
                refine z_V_void2 (pc' := 173) X rfl Y_X8_isTold q2610 dX8_isMix_170 rfl (by decide) (Nat.le_refl _) (Nat.le_refl _) (Nat.le_of_ble_eq_true rfl) (c_X8_isTold _ _ _ _ 5 c.ds (by decide) (by omega) hm6k) (fun M170 hp170 hR170 => ?_)
                subst hp170
                refine z_iload (pc' := 175) X dX8_isMix_173 rfl rfl ?_
                refine z_zreturn X dX8_isMix_175 (by first | exact nar_0 | exact nar_1 | exact nar_b (by omega)) (Nat.le_refl _) (Nat.le_refl _) (fun _ hh => ⟨_, hh, _, rfl, ?_, ?_⟩)
                · first | assumption | omega
                · rw [eE]
                  have e6 : toldM Mx c.f k 0 6 = M 0 6 := by rw [toldM_r (by decide)]; exact hfr.2.2.1 6 (by decide)
                  have e6x : Mx 0 6 = M 0 6 := hfr.2.2.1 6 (by decide)
                  rw [e6]
                  obtain rfl : k = 4 := by omega
                  refine ⟨rfl, ?_, fun j hj => ?_, fun q x y z => ?_, fun s x y => ?_, mset_s, fun j hj => ?_, hok⟩
                  · rw [mset_r (by decide), toldM_r (by decide)]; exact hfr.1
                  · rw [mset_r (by decide), toldM_r (by decide)]; exact hfr.2.2.1 j hj
                  · rw [mset_r y, toldM_r y]; exact hfr.2.2.2 q x z
                  · rw [mset_k (by omega)]; unfold toldM; rw [e6x, if_pos ⟨rfl, by omega, by omega⟩]; congr 1; omega
                  · rw [mset_k (by omega)]; unfold toldM; rw [e6x, if_neg (by omega), hfr.2.2.2 8 (by decide) (by decide)]
              · refine z_aload_n (pc' := 147) X dX8_isMix_146 rfl rfl ?_
                refine z_iconst (pc' := 148) X dX8_isMix_147 rfl ?_
                refine z_iload (pc' := 150) X dX8_isMix_148 rfl rfl ?_
                refine z_iadd (pc' := 151) X dX8_isMix_150 rfl ?_
                refine z_aload_n (pc' := 152) X dX8_isMix_151 rfl rfl ?_
                refine z_mget (pc' := 155) X 15 rfl (by decide) q2078 rfl dX8_isMix_152 rfl ?_
                refine z_iload (pc' := 157) X dX8_isMix_155 rfl rfl ?_
                refine z_mld (pc' := 158) X (r := 9) (by decide) (show 0 ≤ _ ∧ _ < (20 : Int) by omega) dX8_isMix_157 rfl (fun hv157 => ?_)
                have e157 : toldM Mx c.f k 9 k = c.f k := by rw [toldM_r (by decide), hfr.2.1]
                rw [e157]
                rw [e157] at hv157
                refine z_V_void2 (pc' := 161) X rfl Y_X8_isTold q2610 dX8_isMix_158 rfl (by decide) (Nat.le_refl _) (Nat.le_refl _) (Nat.le_of_ble_eq_true rfl) (c_X8_isTold _ _ _ _ (1 + k) (c.f k) (by omega) (by omega) hm6k) (fun M158 hp158 hR158 => ?_)
                rw [toldM_s (by omega)] at hp158
                subst hp158
                refine z_iinc (pc' := 164) X dX8_isMix_161 rfl (by decide) rfl rfl ?_
                dsimp only [List.set]
                refine z_goto (tgt := 140) X dX8_isMix_164 (by decide) ?_
                refine ZP.wk (L' := [some (vR (ma 0)), some (vI c.dp), some (vI c.ds), some (vI c.wa), some (vI c.is), some (vI c.mo), some (vI _)]) (And.intro rfl (And.intro rfl (And.intro rfl (And.intro rfl (And.intro rfl (And.intro rfl (And.intro rfl (trivial)))))))) ?_
                exact ih140 _ (by omega) (by omega)
          refine ZP.imp (Φ' := mF ma h (toldM Mx c.f 0)) (fun _ hx => by rw [toldM_0]; exact hx) ?_
          refine ZP.wk (L' := [some (vR (ma 0)), some (vI c.dp), some (vI c.ds), some (vI c.wa), some (vI c.is), some (vI c.mo), some (vI _)]) (And.intro rfl (And.intro rfl (And.intro rfl (And.intro rfl (And.intro rfl (And.intro rfl (And.intro rfl (trivial)))))))) ?_
          exact loop140 _ _ (by decide) (Nat.lt_succ_self _)
        · refine z_iload_n (pc' := 28) X dX8_isMix_27 rfl rfl ?_
          refine z_if_eq (tgt := 56) (pc' := 31) X (by first | assumption | omega) dX8_isMix_28 rfl (by decide) (fun c28 => ?_) (fun c28 => ?_)
          · first
              | rw [show r39 = 0 by omega, Int.add_zero, mset_id hfr.1]
              | skip
            refine z_iload_n (pc' := 57) X dX8_isMix_56 rfl rfl ?_
            refine z_if_eq (tgt := 83) (pc' := 60) X (by first | assumption | omega) dX8_isMix_57 rfl (by decide) (fun c57 => ?_) (fun c57 => ?_)
            · refine z_aload_n (pc' := 84) X dX8_isMix_83 rfl rfl ?_
              refine z_bipush (pc' := 86) X dX8_isMix_84 rfl (by decide) ?_
              refine z_V_int1 (pc' := 89) X rfl Y_X8_takes q2622 dX8_isMix_86 rfl (by decide) (Nat.le_refl _) (Nat.le_refl _) (Nat.le_of_ble_eq_true rfl) (c_X8_takes _ _ _ _ 43 c.p tx htx hfp hk (by decide)) (fun r86 M86 hr86 hp86 hR86 => ?_)
              obtain ⟨f86, g86⟩ := hp86
              subst f86
              refine z_if_eq (tgt := 97) (pc' := 92) X (by first | assumption | omega) dX8_isMix_89 rfl (by decide) (fun c89 => ?_) (fun c89 => ?_)
              · rw [show r86 = 0 by omega, Int.add_zero, mset_id hfr.1]
                refine z_iload_n (pc' := 98) X dX8_isMix_97 rfl rfl ?_
                refine z_if_le (tgt := 131) (pc' := 101) X (by first | assumption | omega) dX8_isMix_98 rfl (by decide) (fun c98 => ?_) (fun c98 => ?_)
                · refine z_iconst (pc' := 132) X dX8_isMix_131 rfl ?_
                  refine z_istore (pc' := 134) X dX8_isMix_132 rfl (by decide) rfl ?_
                  dsimp only [List.set]
                  refine z_goto (tgt := 17) X dX8_isMix_134 (by decide) ?_
                  have es : mxS tx c = (c.p, c.dp, c.ds, c.wa, c.is, 0, c.f) := by unfold mxS; rw [if_neg (by omega), if_neg (by omega), if_neg (by omega), if_neg (by omega)]
                  have hlt := mxS_lt hok ⟨by omega, by omega⟩
                  rw [es] at hlt
                  obtain ⟨m, rfl⟩ : ∃ m, n = m + 1 := ⟨n - 1, by have hq := hM; unfold mxM at hq; rw [if_pos ⟨by omega, by omega⟩] at hq; omega⟩
                  rw [mxR_s ⟨by omega, by omega⟩, es] at hR
                  have hfr2 := mxF_E (ds := c.ds) (dp := c.dp) (wa := c.wa) (is := c.is) (mo := 0) hfr
                  refine ZP.wk (L' := [some (vR (ma 0)), some (vI _), some (vI _), some (vI _), some (vI _), some (vI _), none]) (And.intro rfl (And.intro rfl (And.intro rfl (And.intro rfl (And.intro rfl (And.intro rfl (trivial))))))) ?_
                  exact ih17 (c.p, c.dp, c.ds, c.wa, c.is, 0, c.f) _ m (by exact hR) (by omega) (by exact hlt.1) (by exact hfr2) (by omega)
                · refine z_aload_n (pc' := 102) X dX8_isMix_101 rfl rfl ?_
                  refine z_bipush (pc' := 104) X dX8_isMix_102 rfl (by decide) ?_
                  refine z_V_int1 (pc' := 107) X rfl Y_X8_takes q2622 dX8_isMix_104 rfl (by decide) (Nat.le_refl _) (Nat.le_refl _) (Nat.le_of_ble_eq_true rfl) (c_X8_takes _ _ _ _ 41 c.p tx htx hfp hk (by decide)) (fun r104 M104 hr104 hp104 hR104 => ?_)
                  obtain ⟨f104, g104⟩ := hp104
                  subst f104
                  refine z_if_eq (tgt := 122) (pc' := 110) X (by first | assumption | omega) dX8_isMix_107 rfl (by decide) (fun c107 => ?_) (fun c107 => ?_)
                  · first
                      | rw [show r104 = 0 by omega, Int.add_zero, mset_id hfr.1]
                      | skip
                    refine z_iconst (pc' := 123) X dX8_isMix_122 rfl ?_
                    refine z_istore (pc' := 125) X dX8_isMix_123 rfl (by decide) rfl ?_
                    dsimp only [List.set]
                    refine z_iinc (pc' := 128) X dX8_isMix_125 rfl (by decide) rfl rfl ?_
                    dsimp only [List.set]
                    refine z_goto (tgt := 17) X dX8_isMix_128 (by decide) ?_
                    have es : mxS tx c = (c.p, c.dp - 1, c.ds, c.wa, 0, c.mo, c.f) := by unfold mxS; rw [if_neg (by omega), if_neg (by omega), if_neg (by omega), if_pos (by omega), if_neg (by omega)]
                    have hlt := mxS_lt hok ⟨by omega, by omega⟩
                    rw [es] at hlt
                    obtain ⟨m, rfl⟩ : ∃ m, n = m + 1 := ⟨n - 1, by have hq := hM; unfold mxM at hq; rw [if_pos ⟨by omega, by omega⟩] at hq; omega⟩
                    rw [mxR_s ⟨by omega, by omega⟩, es] at hR
                    have hfr2 := mxF_E (ds := c.ds) (dp := c.dp - 1) (wa := c.wa) (is := 0) (mo := c.mo) hfr
                    refine ZP.wk (L' := [some (vR (ma 0)), some (vI _), some (vI _), some (vI _), some (vI _), some (vI _), none]) (And.intro rfl (And.intro rfl (And.intro rfl (And.intro rfl (And.intro rfl (And.intro rfl (trivial))))))) ?_
                    exact ih17 (c.p, c.dp - 1, c.ds, c.wa, 0, c.mo, c.f) _ m (by exact hR) (by omega) (by exact hlt.1) (by exact hfr2) (by omega)
                  · rw [show r104 = 1 by omega]
                    have hl104 := tS_lt (tx := tx) (p := c.p) (by omega)
                    have hb112 : ∀ s, 0 ≤ s → s < 4 → (0 ≤ mset Mx 0 5 (c.p + 1) 9 (4 * (c.dp - 1) + s) ∧ mset Mx 0 5 (c.p + 1) 9 (4 * (c.dp - 1) + s) ≤ 2000000) ∧ (0 ≤ mset Mx 0 5 (c.p + 1) 9 (4 * c.dp + s) ∧ mset Mx 0 5 (c.p + 1) 9 (4 * c.dp + s) ≤ 2000000) := fun s a b => by
                      rw [mset_r (by decide), hfr.2.1]
                      exact ⟨hok.b ⟨by omega, by omega⟩ ⟨a, b⟩, hok.b ⟨by omega, by omega⟩ ⟨a, b⟩⟩
                    refine z_aload_n (pc' := 111) X dX8_isMix_110 rfl rfl ?_
                    refine z_iload_n (pc' := 112) X dX8_isMix_111 rfl rfl ?_
                    refine z_V_int1 (pc' := 115) X rfl Y_X8_closes q2641 dX8_isMix_112 rfl (by decide) (Nat.le_refl _) (Nat.le_refl _) (Nat.le_of_ble_eq_true rfl) (c_X8_closes _ _ _ _ c.dp (c.p + 1) tx (htx.num (by decide)) ⟨mset_s, by omega, by omega⟩ hk (by omega) hb112) (fun r112 M112 hr112 hp112 hR112 => ?_)
                    obtain ⟨f112, g112⟩ := hp112
                    subst f112
                    have ht112 := tmz_b (tx := tx) (p := c.p + 1)
                    refine z_if_eq (tgt := 122) (pc' := 118) X (by first | assumption | omega) dX8_isMix_115 rfl (by decide) (fun c115 => ?_) (fun c115 => ?_)
                    · first
                        | rw [show r104 = 0 by omega, Int.add_zero, mset_id hfr.1]
                        | skip
                      refine z_iconst (pc' := 123) X dX8_isMix_122 rfl ?_
                      refine z_istore (pc' := 125) X dX8_isMix_123 rfl (by decide) rfl ?_
                      dsimp only [List.set]
                      refine z_iinc (pc' := 128) X dX8_isMix_125 rfl (by decide) rfl rfl ?_
                      dsimp only [List.set]
                      refine z_goto (tgt := 17) X dX8_isMix_128 (by decide) ?_
                      have es : mxS tx c = (c.p + 1 + 0, c.dp - 1, c.ds, c.wa, 0, c.mo, clsF c.f c.dp (tmz tx (c.p + 1)) 4) := by unfold mxS; rw [if_neg (by omega), if_neg (by omega), if_neg (by omega), if_pos (by omega), if_pos (by omega), bit_0 (by omega)]
                      have hlt := mxS_lt hok ⟨by omega, by omega⟩
                      rw [es] at hlt
                      obtain ⟨m, rfl⟩ : ∃ m, n = m + 1 := ⟨n - 1, by have hq := hM; unfold mxM at hq; rw [if_pos ⟨by omega, by omega⟩] at hq; omega⟩
                      rw [mxR_s ⟨by omega, by omega⟩, es] at hR
                      have hfr2 := mxF_D (p := c.p + 1 + 0) (q := c.p + 1) (n := tmz tx (c.p + 1)) (is := 0) hfr
                      rw [bit_0 (P := 0 < tmz tx (c.p + 1)) (by omega)]
                      refine ZP.wk (L' := [some (vR (ma 0)), some (vI _), some (vI _), some (vI _), some (vI _), some (vI _), none]) (And.intro rfl (And.intro rfl (And.intro rfl (And.intro rfl (And.intro rfl (And.intro rfl (trivial))))))) ?_
                      exact ih17 (c.p + 1 + 0, c.dp - 1, c.ds, c.wa, 0, c.mo, clsF c.f c.dp (tmz tx (c.p + 1)) 4) _ m (by exact hR) (by omega) (by exact hlt.1) (by exact hfr2) (by omega)
                    · refine z_iconst (pc' := 119) X dX8_isMix_118 rfl ?_
                      refine z_goto (tgt := 123) X dX8_isMix_119 (by decide) ?_
                      refine z_istore (pc' := 125) X dX8_isMix_123 rfl (by decide) rfl ?_
                      dsimp only [List.set]
                      refine z_iinc (pc' := 128) X dX8_isMix_125 rfl (by decide) rfl rfl ?_
                      dsimp only [List.set]
                      refine z_goto (tgt := 17) X dX8_isMix_128 (by decide) ?_
                      have es : mxS tx c = (c.p + 1 + 1, c.dp - 1, c.ds, c.wa, 1, c.mo, clsF c.f c.dp (tmz tx (c.p + 1)) 4) := by unfold mxS; rw [if_neg (by omega), if_neg (by omega), if_neg (by omega), if_pos (by omega), if_pos (by omega), bit_1 (by omega)]
                      have hlt := mxS_lt hok ⟨by omega, by omega⟩
                      rw [es] at hlt
                      obtain ⟨m, rfl⟩ : ∃ m, n = m + 1 := ⟨n - 1, by have hq := hM; unfold mxM at hq; rw [if_pos ⟨by omega, by omega⟩] at hq; omega⟩
                      rw [mxR_s ⟨by omega, by omega⟩, es] at hR
                      have hfr2 := mxF_D (p := c.p + 1 + 1) (q := c.p + 1) (n := tmz tx (c.p + 1)) (is := 1) hfr
                      rw [bit_1 (P := 0 < tmz tx (c.p + 1)) (by omega)]
                      refine ZP.wk (L' := [some (vR (ma 0)), some (vI _), some (vI _), some (vI _), some (vI _), some (vI _), none]) (And.intro rfl (And.intro rfl (And.intro rfl (And.intro rfl (And.intro rfl (And.intro rfl (trivial))))))) ?_
                      exact ih17 (c.p + 1 + 1, c.dp - 1, c.ds, c.wa, 1, c.mo, clsF c.f c.dp (tmz tx (c.p + 1)) 4) _ m (by exact hR) (by omega) (by exact hlt.1) (by exact hfr2) (by omega)
              · rw [show r86 = 1 by omega]
                refine z_iconst (pc' := 93) X dX8_isMix_92 rfl ?_
                refine z_istore_n (pc' := 94) X dX8_isMix_93 rfl (by decide) rfl ?_
                dsimp only [List.set]
                refine z_goto (tgt := 17) X dX8_isMix_94 (by decide) ?_
                have es : mxS tx c = (c.p + 1, c.dp, c.ds, 1, c.is, c.mo, c.f) := by unfold mxS; rw [if_neg (by omega), if_neg (by omega), if_pos (by omega)]
                have hlt := mxS_lt hok ⟨by omega, by omega⟩
                rw [es] at hlt
                obtain ⟨m, rfl⟩ : ∃ m, n = m + 1 := ⟨n - 1, by have hq := hM; unfold mxM at hq; rw [if_pos ⟨by omega, by omega⟩] at hq; omega⟩
                rw [mxR_s ⟨by omega, by omega⟩, es] at hR
                have hfr2 := mxF_C (p := c.p + 1) (ds := c.ds) (dp := c.dp) (wa := 1) (is := c.is) (mo := c.mo) hfr
                refine ZP.wk (L' := [some (vR (ma 0)), some (vI _), some (vI _), some (vI _), some (vI _), some (vI _), none]) (And.intro rfl (And.intro rfl (And.intro rfl (And.intro rfl (And.intro rfl (And.intro rfl (trivial))))))) ?_
                exact ih17 (c.p + 1, c.dp, c.ds, 1, c.is, c.mo, c.f) _ m (by exact hR) (by omega) (by exact hlt.1) (by exact hfr2) (by omega)
            · have hb62 : ∀ s, 0 ≤ s → s < 4 → 0 ≤ Mx 9 (4 * c.dp + s) ∧ Mx 9 (4 * c.dp + s) ≤ 2000000 := fun s a b => by rw [hfr.2.1]; exact hok.b ⟨hkd.1, Int.le_refl _⟩ ⟨a, b⟩
              refine z_aload_n (pc' := 61) X dX8_isMix_60 rfl rfl ?_
              refine z_iload_n (pc' := 62) X dX8_isMix_61 rfl rfl ?_
              refine z_V_int1 (pc' := 65) X rfl Y_X8_isTerm q2630 dX8_isMix_62 rfl (by decide) (Nat.le_refl _) (Nat.le_refl _) (Nat.le_of_ble_eq_true rfl) (c_X8_isTerm _ _ _ _ c.dp c.p tx htx hfp hk hkd hb62) (fun r62 M62 hr62 hp62 hR62 => ?_)
              obtain ⟨f62, g62⟩ := hp62
              subst f62
              have htr := tr_b (tx := tx) (p := c.p) ⟨hp6.1, hp6.2.1⟩
              refine z_istore (pc' := 67) X dX8_isMix_65 rfl (by decide) rfl ?_
              dsimp only [List.set]
              refine z_iload_n (pc' := 68) X dX8_isMix_67 rfl rfl ?_
              refine z_iload_n (pc' := 69) X dX8_isMix_68 rfl rfl ?_
              refine z_icmp_le (tgt := 76) (pc' := 72) X (by first | assumption | omega) (by first | assumption | omega) dX8_isMix_69 rfl (by decide) (fun c69 => ?_) (fun c69 => ?_)
              · refine z_iload_n (pc' := 77) X dX8_isMix_76 rfl rfl ?_
                refine z_istore_n (pc' := 78) X dX8_isMix_77 rfl (by decide) rfl ?_
                dsimp only [List.set]
                refine z_iconst (pc' := 79) X dX8_isMix_78 rfl ?_
                refine z_istore_n (pc' := 80) X dX8_isMix_79 rfl (by decide) rfl ?_
                dsimp only [List.set]
                refine z_goto (tgt := 17) X dX8_isMix_80 (by decide) ?_
                have es : mxS tx c = (trP tx c.p, c.dp, c.ds, 0, r62, c.mo, iup c.f (4 * c.dp + trD tx c.p) (c.f (4 * c.dp + trD tx c.p) + trN tx c.p)) := by unfold mxS; rw [if_neg (by omega), if_pos (by omega), if_neg (by omega)]; first | (rw [show r62 = bit (0 < trN tx c.p) by unfold bit; split <;> omega]) | skip
                have hlt := mxS_lt hok ⟨by omega, by omega⟩
                rw [es] at hlt
                obtain ⟨m, rfl⟩ : ∃ m, n = m + 1 := ⟨n - 1, by have hq := hM; unfold mxM at hq; rw [if_pos ⟨by omega, by omega⟩] at hq; omega⟩
                rw [mxR_s ⟨by omega, by omega⟩, es] at hR
                have hfr2 := mxF_B (ds := c.ds) (wa := 0) (is := r62) (p := trP tx c.p) (i := 4 * c.dp + trD tx c.p) (n := trN tx c.p) hfr
                refine ZP.wk (L' := [some (vR (ma 0)), some (vI _), some (vI _), some (vI _), some (vI _), some (vI _), none]) (And.intro rfl (And.intro rfl (And.intro rfl (And.intro rfl (And.intro rfl (And.intro rfl (trivial))))))) ?_
                exact ih17 (trP tx c.p, c.dp, c.ds, 0, r62, c.mo, iup c.f (4 * c.dp + trD tx c.p) (c.f (4 * c.dp + trD tx c.p) + trN tx c.p)) _ m (by exact hR) (by omega) (by exact hlt.1) (by exact hfr2) (by omega)
              · refine z_iload_n (pc' := 73) X dX8_isMix_72 rfl rfl ?_
                refine z_goto (tgt := 77) X dX8_isMix_73 (by decide) ?_
                refine z_istore_n (pc' := 78) X dX8_isMix_77 rfl (by decide) rfl ?_
                dsimp only [List.set]
                refine z_iconst (pc' := 79) X dX8_isMix_78 rfl ?_
                refine z_istore_n (pc' := 80) X dX8_isMix_79 rfl (by decide) rfl ?_
                dsimp only [List.set]
                refine z_goto (tgt := 17) X dX8_isMix_80 (by decide) ?_
                have es : mxS tx c = (trP tx c.p, c.dp, c.dp, 0, r62, c.mo, iup c.f (4 * c.dp + trD tx c.p) (c.f (4 * c.dp + trD tx c.p) + trN tx c.p)) := by unfold mxS; rw [if_neg (by omega), if_pos (by omega), if_pos (by omega)]; first | (rw [show r62 = bit (0 < trN tx c.p) by unfold bit; split <;> omega]) | skip
                have hlt := mxS_lt hok ⟨by omega, by omega⟩
                rw [es] at hlt
                obtain ⟨m, rfl⟩ : ∃ m, n = m + 1 := ⟨n - 1, by have hq := hM; unfold mxM at hq; rw [if_pos ⟨by omega, by omega⟩] at hq; omega⟩
                rw [mxR_s ⟨by omega, by omega⟩, es] at hR
                have hfr2 := mxF_B (ds := c.dp) (wa := 0) (is := r62) (p := trP tx c.p) (i := 4 * c.dp + trD tx c.p) (n := trN tx c.p) hfr
                refine ZP.wk (L' := [some (vR (ma 0)), some (vI _), some (vI _), some (vI _), some (vI _), some (vI _), none]) (And.intro rfl (And.intro rfl (And.intro rfl (And.intro rfl (And.intro rfl (And.intro rfl (trivial))))))) ?_
                exact ih17 (trP tx c.p, c.dp, c.dp, 0, r62, c.mo, iup c.f (4 * c.dp + trD tx c.p) (c.f (4 * c.dp + trD tx c.p) + trN tx c.p)) _ m (by exact hR) (by omega) (by exact hlt.1) (by exact hfr2) (by omega)
          · refine z_iload_n (pc' := 32) X dX8_isMix_31 rfl rfl ?_
            refine z_iconst (pc' := 33) X dX8_isMix_32 rfl ?_
            refine z_icmp_ge (tgt := 56) (pc' := 36) X (by first | assumption | omega) (by first | assumption | omega) dX8_isMix_33 rfl (by decide) (fun c33 => ?_) (fun c33 => ?_)
            · first
                | rw [show r39 = 0 by omega, Int.add_zero, mset_id hfr.1]
                | skip
              refine z_iload_n (pc' := 57) X dX8_isMix_56 rfl rfl ?_
              refine z_if_eq (tgt := 83) (pc' := 60) X (by first | assumption | omega) dX8_isMix_57 rfl (by decide) (fun c57 => ?_) (fun c57 => ?_)
              · refine z_aload_n (pc' := 84) X dX8_isMix_83 rfl rfl ?_
                refine z_bipush (pc' := 86) X dX8_isMix_84 rfl (by decide) ?_
                refine z_V_int1 (pc' := 89) X rfl Y_X8_takes q2622 dX8_isMix_86 rfl (by decide) (Nat.le_refl _) (Nat.le_refl _) (Nat.le_of_ble_eq_true rfl) (c_X8_takes _ _ _ _ 43 c.p tx htx hfp hk (by decide)) (fun r86 M86 hr86 hp86 hR86 => ?_)
                obtain ⟨f86, g86⟩ := hp86
                subst f86
                refine z_if_eq (tgt := 97) (pc' := 92) X (by first | assumption | omega) dX8_isMix_89 rfl (by decide) (fun c89 => ?_) (fun c89 => ?_)
                · rw [show r86 = 0 by omega, Int.add_zero, mset_id hfr.1]
                  refine z_iload_n (pc' := 98) X dX8_isMix_97 rfl rfl ?_
                  refine z_if_le (tgt := 131) (pc' := 101) X (by first | assumption | omega) dX8_isMix_98 rfl (by decide) (fun c98 => ?_) (fun c98 => ?_)
                  · refine z_iconst (pc' := 132) X dX8_isMix_131 rfl ?_
                    refine z_istore (pc' := 134) X dX8_isMix_132 rfl (by decide) rfl ?_
                    dsimp only [List.set]
                    refine z_goto (tgt := 17) X dX8_isMix_134 (by decide) ?_
                    have es : mxS tx c = (c.p, c.dp, c.ds, c.wa, c.is, 0, c.f) := by unfold mxS; rw [if_neg (by omega), if_neg (by omega), if_neg (by omega), if_neg (by omega)]
                    have hlt := mxS_lt hok ⟨by omega, by omega⟩
                    rw [es] at hlt
                    obtain ⟨m, rfl⟩ : ∃ m, n = m + 1 := ⟨n - 1, by have hq := hM; unfold mxM at hq; rw [if_pos ⟨by omega, by omega⟩] at hq; omega⟩
                    rw [mxR_s ⟨by omega, by omega⟩, es] at hR
                    have hfr2 := mxF_E (ds := c.ds) (dp := c.dp) (wa := c.wa) (is := c.is) (mo := 0) hfr
                    refine ZP.wk (L' := [some (vR (ma 0)), some (vI _), some (vI _), some (vI _), some (vI _), some (vI _), none]) (And.intro rfl (And.intro rfl (And.intro rfl (And.intro rfl (And.intro rfl (And.intro rfl (trivial))))))) ?_
                    exact ih17 (c.p, c.dp, c.ds, c.wa, c.is, 0, c.f) _ m (by exact hR) (by omega) (by exact hlt.1) (by exact hfr2) (by omega)
                  · refine z_aload_n (pc' := 102) X dX8_isMix_101 rfl rfl ?_
                    refine z_bipush (pc' := 104) X dX8_isMix_102 rfl (by decide) ?_
                    refine z_V_int1 (pc' := 107) X rfl Y_X8_takes q2622 dX8_isMix_104 rfl (by decide) (Nat.le_refl _) (Nat.le_refl _) (Nat.le_of_ble_eq_true rfl) (c_X8_takes _ _ _ _ 41 c.p tx htx hfp hk (by decide)) (fun r104 M104 hr104 hp104 hR104 => ?_)
                    obtain ⟨f104, g104⟩ := hp104
                    subst f104
                    refine z_if_eq (tgt := 122) (pc' := 110) X (by first | assumption | omega) dX8_isMix_107 rfl (by decide) (fun c107 => ?_) (fun c107 => ?_)
                    · first
                        | rw [show r104 = 0 by omega, Int.add_zero, mset_id hfr.1]
                        | skip
                      refine z_iconst (pc' := 123) X dX8_isMix_122 rfl ?_
                      refine z_istore (pc' := 125) X dX8_isMix_123 rfl (by decide) rfl ?_
                      dsimp only [List.set]
                      refine z_iinc (pc' := 128) X dX8_isMix_125 rfl (by decide) rfl rfl ?_
                      dsimp only [List.set]
                      refine z_goto (tgt := 17) X dX8_isMix_128 (by decide) ?_
                      have es : mxS tx c = (c.p, c.dp - 1, c.ds, c.wa, 0, c.mo, c.f) := by unfold mxS; rw [if_neg (by omega), if_neg (by omega), if_neg (by omega), if_pos (by omega), if_neg (by omega)]
                      have hlt := mxS_lt hok ⟨by omega, by omega⟩
                      rw [es] at hlt
                      obtain ⟨m, rfl⟩ : ∃ m, n = m + 1 := ⟨n - 1, by have hq := hM; unfold mxM at hq; rw [if_pos ⟨by omega, by omega⟩] at hq; omega⟩
                      rw [mxR_s ⟨by omega, by omega⟩, es] at hR
                      have hfr2 := mxF_E (ds := c.ds) (dp := c.dp - 1) (wa := c.wa) (is := 0) (mo := c.mo) hfr
                      refine ZP.wk (L' := [some (vR (ma 0)), some (vI _), some (vI _), some (vI _), some (vI _), some (vI _), none]) (And.intro rfl (And.intro rfl (And.intro rfl (And.intro rfl (And.intro rfl (And.intro rfl (trivial))))))) ?_
                      exact ih17 (c.p, c.dp - 1, c.ds, c.wa, 0, c.mo, c.f) _ m (by exact hR) (by omega) (by exact hlt.1) (by exact hfr2) (by omega)
                    · rw [show r104 = 1 by omega]
                      have hl104 := tS_lt (tx := tx) (p := c.p) (by omega)
                      have hb112 : ∀ s, 0 ≤ s → s < 4 → (0 ≤ mset Mx 0 5 (c.p + 1) 9 (4 * (c.dp - 1) + s) ∧ mset Mx 0 5 (c.p + 1) 9 (4 * (c.dp - 1) + s) ≤ 2000000) ∧ (0 ≤ mset Mx 0 5 (c.p + 1) 9 (4 * c.dp + s) ∧ mset Mx 0 5 (c.p + 1) 9 (4 * c.dp + s) ≤ 2000000) := fun s a b => by
                        rw [mset_r (by decide), hfr.2.1]
                        exact ⟨hok.b ⟨by omega, by omega⟩ ⟨a, b⟩, hok.b ⟨by omega, by omega⟩ ⟨a, b⟩⟩
                      refine z_aload_n (pc' := 111) X dX8_isMix_110 rfl rfl ?_
                      refine z_iload_n (pc' := 112) X dX8_isMix_111 rfl rfl ?_
                      refine z_V_int1 (pc' := 115) X rfl Y_X8_closes q2641 dX8_isMix_112 rfl (by decide) (Nat.le_refl _) (Nat.le_refl _) (Nat.le_of_ble_eq_true rfl) (c_X8_closes _ _ _ _ c.dp (c.p + 1) tx (htx.num (by decide)) ⟨mset_s, by omega, by omega⟩ hk (by omega) hb112) (fun r112 M112 hr112 hp112 hR112 => ?_)
                      obtain ⟨f112, g112⟩ := hp112
                      subst f112
                      have ht112 := tmz_b (tx := tx) (p := c.p + 1)
                      refine z_if_eq (tgt := 122) (pc' := 118) X (by first | assumption | omega) dX8_isMix_115 rfl (by decide) (fun c115 => ?_) (fun c115 => ?_)
                      · first
                          | rw [show r104 = 0 by omega, Int.add_zero, mset_id hfr.1]
                          | skip
                        refine z_iconst (pc' := 123) X dX8_isMix_122 rfl ?_
                        refine z_istore (pc' := 125) X dX8_isMix_123 rfl (by decide) rfl ?_
                        dsimp only [List.set]
                        refine z_iinc (pc' := 128) X dX8_isMix_125 rfl (by decide) rfl rfl ?_
                        dsimp only [List.set]
                        refine z_goto (tgt := 17) X dX8_isMix_128 (by decide) ?_
                        have es : mxS tx c = (c.p + 1 + 0, c.dp - 1, c.ds, c.wa, 0, c.mo, clsF c.f c.dp (tmz tx (c.p + 1)) 4) := by unfold mxS; rw [if_neg (by omega), if_neg (by omega), if_neg (by omega), if_pos (by omega), if_pos (by omega), bit_0 (by omega)]
                        have hlt := mxS_lt hok ⟨by omega, by omega⟩
                        rw [es] at hlt
                        obtain ⟨m, rfl⟩ : ∃ m, n = m + 1 := ⟨n - 1, by have hq := hM; unfold mxM at hq; rw [if_pos ⟨by omega, by omega⟩] at hq; omega⟩
                        rw [mxR_s ⟨by omega, by omega⟩, es] at hR
                        have hfr2 := mxF_D (p := c.p + 1 + 0) (q := c.p + 1) (n := tmz tx (c.p + 1)) (is := 0) hfr
                        rw [bit_0 (P := 0 < tmz tx (c.p + 1)) (by omega)]
                        refine ZP.wk (L' := [some (vR (ma 0)), some (vI _), some (vI _), some (vI _), some (vI _), some (vI _), none]) (And.intro rfl (And.intro rfl (And.intro rfl (And.intro rfl (And.intro rfl (And.intro rfl (trivial))))))) ?_
                        exact ih17 (c.p + 1 + 0, c.dp - 1, c.ds, c.wa, 0, c.mo, clsF c.f c.dp (tmz tx (c.p + 1)) 4) _ m (by exact hR) (by omega) (by exact hlt.1) (by exact hfr2) (by omega)
                      · refine z_iconst (pc' := 119) X dX8_isMix_118 rfl ?_
                        refine z_goto (tgt := 123) X dX8_isMix_119 (by decide) ?_
                        refine z_istore (pc' := 125) X dX8_isMix_123 rfl (by decide) rfl ?_
                        dsimp only [List.set]
                        refine z_iinc (pc' := 128) X dX8_isMix_125 rfl (by decide) rfl rfl ?_
                        dsimp only [List.set]
                        refine z_goto (tgt := 17) X dX8_isMix_128 (by decide) ?_
                        have es : mxS tx c = (c.p + 1 + 1, c.dp - 1, c.ds, c.wa, 1, c.mo, clsF c.f c.dp (tmz tx (c.p + 1)) 4) := by unfold mxS; rw [if_neg (by omega), if_neg (by omega), if_neg (by omega), if_pos (by omega), if_pos (by omega), bit_1 (by omega)]
                        have hlt := mxS_lt hok ⟨by omega, by omega⟩
                        rw [es] at hlt
                        obtain ⟨m, rfl⟩ : ∃ m, n = m + 1 := ⟨n - 1, by have hq := hM; unfold mxM at hq; rw [if_pos ⟨by omega, by omega⟩] at hq; omega⟩
                        rw [mxR_s ⟨by omega, by omega⟩, es] at hR
                        have hfr2 := mxF_D (p := c.p + 1 + 1) (q := c.p + 1) (n := tmz tx (c.p + 1)) (is := 1) hfr
                        rw [bit_1 (P := 0 < tmz tx (c.p + 1)) (by omega)]
                        refine ZP.wk (L' := [some (vR (ma 0)), some (vI _), some (vI _), some (vI _), some (vI _), some (vI _), none]) (And.intro rfl (And.intro rfl (And.intro rfl (And.intro rfl (And.intro rfl (And.intro rfl (trivial))))))) ?_
                        exact ih17 (c.p + 1 + 1, c.dp - 1, c.ds, c.wa, 1, c.mo, clsF c.f c.dp (tmz tx (c.p + 1)) 4) _ m (by exact hR) (by omega) (by exact hlt.1) (by exact hfr2) (by omega)
                · rw [show r86 = 1 by omega]
                  refine z_iconst (pc' := 93) X dX8_isMix_92 rfl ?_
                  refine z_istore_n (pc' := 94) X dX8_isMix_93 rfl (by decide) rfl ?_
                  dsimp only [List.set]
                  refine z_goto (tgt := 17) X dX8_isMix_94 (by decide) ?_
                  have es : mxS tx c = (c.p + 1, c.dp, c.ds, 1, c.is, c.mo, c.f) := by unfold mxS; rw [if_neg (by omega), if_neg (by omega), if_pos (by omega)]
                  have hlt := mxS_lt hok ⟨by omega, by omega⟩
                  rw [es] at hlt
                  obtain ⟨m, rfl⟩ : ∃ m, n = m + 1 := ⟨n - 1, by have hq := hM; unfold mxM at hq; rw [if_pos ⟨by omega, by omega⟩] at hq; omega⟩
                  rw [mxR_s ⟨by omega, by omega⟩, es] at hR
                  have hfr2 := mxF_C (p := c.p + 1) (ds := c.ds) (dp := c.dp) (wa := 1) (is := c.is) (mo := c.mo) hfr
                  refine ZP.wk (L' := [some (vR (ma 0)), some (vI _), some (vI _), some (vI _), some (vI _), some (vI _), none]) (And.intro rfl (And.intro rfl (And.intro rfl (And.intro rfl (And.intro rfl (And.intro rfl (trivial))))))) ?_
                  exact ih17 (c.p + 1, c.dp, c.ds, 1, c.is, c.mo, c.f) _ m (by exact hR) (by omega) (by exact hlt.1) (by exact hfr2) (by omega)
              · have hb62 : ∀ s, 0 ≤ s → s < 4 → 0 ≤ Mx 9 (4 * c.dp + s) ∧ Mx 9 (4 * c.dp + s) ≤ 2000000 := fun s a b => by rw [hfr.2.1]; exact hok.b ⟨hkd.1, Int.le_refl _⟩ ⟨a, b⟩
                refine z_aload_n (pc' := 61) X dX8_isMix_60 rfl rfl ?_
                refine z_iload_n (pc' := 62) X dX8_isMix_61 rfl rfl ?_
                refine z_V_int1 (pc' := 65) X rfl Y_X8_isTerm q2630 dX8_isMix_62 rfl (by decide) (Nat.le_refl _) (Nat.le_refl _) (Nat.le_of_ble_eq_true rfl) (c_X8_isTerm _ _ _ _ c.dp c.p tx htx hfp hk hkd hb62) (fun r62 M62 hr62 hp62 hR62 => ?_)
                obtain ⟨f62, g62⟩ := hp62
                subst f62
                have htr := tr_b (tx := tx) (p := c.p) ⟨hp6.1, hp6.2.1⟩
                refine z_istore (pc' := 67) X dX8_isMix_65 rfl (by decide) rfl ?_
                dsimp only [List.set]
                refine z_iload_n (pc' := 68) X dX8_isMix_67 rfl rfl ?_
                refine z_iload_n (pc' := 69) X dX8_isMix_68 rfl rfl ?_
                refine z_icmp_le (tgt := 76) (pc' := 72) X (by first | assumption | omega) (by first | assumption | omega) dX8_isMix_69 rfl (by decide) (fun c69 => ?_) (fun c69 => ?_)
                · refine z_iload_n (pc' := 77) X dX8_isMix_76 rfl rfl ?_
                  refine z_istore_n (pc' := 78) X dX8_isMix_77 rfl (by decide) rfl ?_
                  dsimp only [List.set]
                  refine z_iconst (pc' := 79) X dX8_isMix_78 rfl ?_
                  refine z_istore_n (pc' := 80) X dX8_isMix_79 rfl (by decide) rfl ?_
                  dsimp only [List.set]
                  refine z_goto (tgt := 17) X dX8_isMix_80 (by decide) ?_
                  have es : mxS tx c = (trP tx c.p, c.dp, c.ds, 0, r62, c.mo, iup c.f (4 * c.dp + trD tx c.p) (c.f (4 * c.dp + trD tx c.p) + trN tx c.p)) := by unfold mxS; rw [if_neg (by omega), if_pos (by omega), if_neg (by omega)]; first | (rw [show r62 = bit (0 < trN tx c.p) by unfold bit; split <;> omega]) | skip
                  have hlt := mxS_lt hok ⟨by omega, by omega⟩
                  rw [es] at hlt
                  obtain ⟨m, rfl⟩ : ∃ m, n = m + 1 := ⟨n - 1, by have hq := hM; unfold mxM at hq; rw [if_pos ⟨by omega, by omega⟩] at hq; omega⟩
                  rw [mxR_s ⟨by omega, by omega⟩, es] at hR
                  have hfr2 := mxF_B (ds := c.ds) (wa := 0) (is := r62) (p := trP tx c.p) (i := 4 * c.dp + trD tx c.p) (n := trN tx c.p) hfr
                  refine ZP.wk (L' := [some (vR (ma 0)), some (vI _), some (vI _), some (vI _), some (vI _), some (vI _), none]) (And.intro rfl (And.intro rfl (And.intro rfl (And.intro rfl (And.intro rfl (And.intro rfl (trivial))))))) ?_
                  exact ih17 (trP tx c.p, c.dp, c.ds, 0, r62, c.mo, iup c.f (4 * c.dp + trD tx c.p) (c.f (4 * c.dp + trD tx c.p) + trN tx c.p)) _ m (by exact hR) (by omega) (by exact hlt.1) (by exact hfr2) (by omega)
                · refine z_iload_n (pc' := 73) X dX8_isMix_72 rfl rfl ?_
                  refine z_goto (tgt := 77) X dX8_isMix_73 (by decide) ?_
                  refine z_istore_n (pc' := 78) X dX8_isMix_77 rfl (by decide) rfl ?_
                  dsimp only [List.set]
                  refine z_iconst (pc' := 79) X dX8_isMix_78 rfl ?_
                  refine z_istore_n (pc' := 80) X dX8_isMix_79 rfl (by decide) rfl ?_
                  dsimp only [List.set]
                  refine z_goto (tgt := 17) X dX8_isMix_80 (by decide) ?_
                  have es : mxS tx c = (trP tx c.p, c.dp, c.dp, 0, r62, c.mo, iup c.f (4 * c.dp + trD tx c.p) (c.f (4 * c.dp + trD tx c.p) + trN tx c.p)) := by unfold mxS; rw [if_neg (by omega), if_pos (by omega), if_pos (by omega)]; first | (rw [show r62 = bit (0 < trN tx c.p) by unfold bit; split <;> omega]) | skip
                  have hlt := mxS_lt hok ⟨by omega, by omega⟩
                  rw [es] at hlt
                  obtain ⟨m, rfl⟩ : ∃ m, n = m + 1 := ⟨n - 1, by have hq := hM; unfold mxM at hq; rw [if_pos ⟨by omega, by omega⟩] at hq; omega⟩
                  rw [mxR_s ⟨by omega, by omega⟩, es] at hR
                  have hfr2 := mxF_B (ds := c.dp) (wa := 0) (is := r62) (p := trP tx c.p) (i := 4 * c.dp + trD tx c.p) (n := trN tx c.p) hfr
                  refine ZP.wk (L' := [some (vR (ma 0)), some (vI _), some (vI _), some (vI _), some (vI _), some (vI _), none]) (And.intro rfl (And.intro rfl (And.intro rfl (And.intro rfl (And.intro rfl (And.intro rfl (trivial))))))) ?_
                  exact ih17 (trP tx c.p, c.dp, c.dp, 0, r62, c.mo, iup c.f (4 * c.dp + trD tx c.p) (c.f (4 * c.dp + trD tx c.p) + trN tx c.p)) _ m (by exact hR) (by omega) (by exact hlt.1) (by exact hfr2) (by omega)
            · refine z_aload_n (pc' := 37) X dX8_isMix_36 rfl rfl ?_
              refine z_bipush (pc' := 39) X dX8_isMix_37 rfl (by decide) ?_
              refine z_V_int1 (pc' := 42) X rfl Y_X8_takes q2622 dX8_isMix_39 rfl (by decide) (Nat.le_refl _) (Nat.le_refl _) (Nat.le_of_ble_eq_true rfl) (c_X8_takes _ _ _ _ 40 c.p tx htx hfp hk (by decide)) (fun r39 M39 hr39 hp39 hR39 => ?_)
              obtain ⟨f39, g39⟩ := hp39
              subst f39
              refine z_if_eq (tgt := 56) (pc' := 45) X (by first | assumption | omega) dX8_isMix_42 rfl (by decide) (fun c42 => ?_) (fun c42 => ?_)
              · first
                  | rw [show r39 = 0 by omega, Int.add_zero, mset_id hfr.1]
                  | skip
                refine z_iload_n (pc' := 57) X dX8_isMix_56 rfl rfl ?_
                refine z_if_eq (tgt := 83) (pc' := 60) X (by first | assumption | omega) dX8_isMix_57 rfl (by decide) (fun c57 => ?_) (fun c57 => ?_)
                · refine z_aload_n (pc' := 84) X dX8_isMix_83 rfl rfl ?_
                  refine z_bipush (pc' := 86) X dX8_isMix_84 rfl (by decide) ?_
                  refine z_V_int1 (pc' := 89) X rfl Y_X8_takes q2622 dX8_isMix_86 rfl (by decide) (Nat.le_refl _) (Nat.le_refl _) (Nat.le_of_ble_eq_true rfl) (c_X8_takes _ _ _ _ 43 c.p tx htx hfp hk (by decide)) (fun r86 M86 hr86 hp86 hR86 => ?_)
                  obtain ⟨f86, g86⟩ := hp86
                  subst f86
                  refine z_if_eq (tgt := 97) (pc' := 92) X (by first | assumption | omega) dX8_isMix_89 rfl (by decide) (fun c89 => ?_) (fun c89 => ?_)
                  · rw [show r86 = 0 by omega, Int.add_zero, mset_id hfr.1]
                    refine z_iload_n (pc' := 98) X dX8_isMix_97 rfl rfl ?_
                    refine z_if_le (tgt := 131) (pc' := 101) X (by first | assumption | omega) dX8_isMix_98 rfl (by decide) (fun c98 => ?_) (fun c98 => ?_)
                    · refine z_iconst (pc' := 132) X dX8_isMix_131 rfl ?_
                      refine z_istore (pc' := 134) X dX8_isMix_132 rfl (by decide) rfl ?_
                      dsimp only [List.set]
                      refine z_goto (tgt := 17) X dX8_isMix_134 (by decide) ?_
                      have es : mxS tx c = (c.p, c.dp, c.ds, c.wa, c.is, 0, c.f) := by unfold mxS; rw [if_neg (by omega), if_neg (by omega), if_neg (by omega), if_neg (by omega)]
                      have hlt := mxS_lt hok ⟨by omega, by omega⟩
                      rw [es] at hlt
                      obtain ⟨m, rfl⟩ : ∃ m, n = m + 1 := ⟨n - 1, by have hq := hM; unfold mxM at hq; rw [if_pos ⟨by omega, by omega⟩] at hq; omega⟩
                      rw [mxR_s ⟨by omega, by omega⟩, es] at hR
                      have hfr2 := mxF_E (ds := c.ds) (dp := c.dp) (wa := c.wa) (is := c.is) (mo := 0) hfr
                      refine ZP.wk (L' := [some (vR (ma 0)), some (vI _), some (vI _), some (vI _), some (vI _), some (vI _), none]) (And.intro rfl (And.intro rfl (And.intro rfl (And.intro rfl (And.intro rfl (And.intro rfl (trivial))))))) ?_
                      exact ih17 (c.p, c.dp, c.ds, c.wa, c.is, 0, c.f) _ m (by exact hR) (by omega) (by exact hlt.1) (by exact hfr2) (by omega)
                    · refine z_aload_n (pc' := 102) X dX8_isMix_101 rfl rfl ?_
                      refine z_bipush (pc' := 104) X dX8_isMix_102 rfl (by decide) ?_
                      refine z_V_int1 (pc' := 107) X rfl Y_X8_takes q2622 dX8_isMix_104 rfl (by decide) (Nat.le_refl _) (Nat.le_refl _) (Nat.le_of_ble_eq_true rfl) (c_X8_takes _ _ _ _ 41 c.p tx htx hfp hk (by decide)) (fun r104 M104 hr104 hp104 hR104 => ?_)
                      obtain ⟨f104, g104⟩ := hp104
                      subst f104
                      refine z_if_eq (tgt := 122) (pc' := 110) X (by first | assumption | omega) dX8_isMix_107 rfl (by decide) (fun c107 => ?_) (fun c107 => ?_)
                      · first
                          | rw [show r104 = 0 by omega, Int.add_zero, mset_id hfr.1]
                          | skip
                        refine z_iconst (pc' := 123) X dX8_isMix_122 rfl ?_
                        refine z_istore (pc' := 125) X dX8_isMix_123 rfl (by decide) rfl ?_
                        dsimp only [List.set]
                        refine z_iinc (pc' := 128) X dX8_isMix_125 rfl (by decide) rfl rfl ?_
                        dsimp only [List.set]
                        refine z_goto (tgt := 17) X dX8_isMix_128 (by decide) ?_
                        have es : mxS tx c = (c.p, c.dp - 1, c.ds, c.wa, 0, c.mo, c.f) := by unfold mxS; rw [if_neg (by omega), if_neg (by omega), if_neg (by omega), if_pos (by omega), if_neg (by omega)]
                        have hlt := mxS_lt hok ⟨by omega, by omega⟩
                        rw [es] at hlt
                        obtain ⟨m, rfl⟩ : ∃ m, n = m + 1 := ⟨n - 1, by have hq := hM; unfold mxM at hq; rw [if_pos ⟨by omega, by omega⟩] at hq; omega⟩
                        rw [mxR_s ⟨by omega, by omega⟩, es] at hR
                        have hfr2 := mxF_E (ds := c.ds) (dp := c.dp - 1) (wa := c.wa) (is := 0) (mo := c.mo) hfr
                        refine ZP.wk (L' := [some (vR (ma 0)), some (vI _), some (vI _), some (vI _), some (vI _), some (vI _), none]) (And.intro rfl (And.intro rfl (And.intro rfl (And.intro rfl (And.intro rfl (And.intro rfl (trivial))))))) ?_
                        exact ih17 (c.p, c.dp - 1, c.ds, c.wa, 0, c.mo, c.f) _ m (by exact hR) (by omega) (by exact hlt.1) (by exact hfr2) (by omega)
                      · rw [show r104 = 1 by omega]
                        have hl104 := tS_lt (tx := tx) (p := c.p) (by omega)
                        have hb112 : ∀ s, 0 ≤ s → s < 4 → (0 ≤ mset Mx 0 5 (c.p + 1) 9 (4 * (c.dp - 1) + s) ∧ mset Mx 0 5 (c.p + 1) 9 (4 * (c.dp - 1) + s) ≤ 2000000) ∧ (0 ≤ mset Mx 0 5 (c.p + 1) 9 (4 * c.dp + s) ∧ mset Mx 0 5 (c.p + 1) 9 (4 * c.dp + s) ≤ 2000000) := fun s a b => by
                          rw [mset_r (by decide), hfr.2.1]
                          exact ⟨hok.b ⟨by omega, by omega⟩ ⟨a, b⟩, hok.b ⟨by omega, by omega⟩ ⟨a, b⟩⟩
                        refine z_aload_n (pc' := 111) X dX8_isMix_110 rfl rfl ?_
                        refine z_iload_n (pc' := 112) X dX8_isMix_111 rfl rfl ?_
                        refine z_V_int1 (pc' := 115) X rfl Y_X8_closes q2641 dX8_isMix_112 rfl (by decide) (Nat.le_refl _) (Nat.le_refl _) (Nat.le_of_ble_eq_true rfl) (c_X8_closes _ _ _ _ c.dp (c.p + 1) tx (htx.num (by decide)) ⟨mset_s, by omega, by omega⟩ hk (by omega) hb112) (fun r112 M112 hr112 hp112 hR112 => ?_)
                        obtain ⟨f112, g112⟩ := hp112
                        subst f112
                        have ht112 := tmz_b (tx := tx) (p := c.p + 1)
                        refine z_if_eq (tgt := 122) (pc' := 118) X (by first | assumption | omega) dX8_isMix_115 rfl (by decide) (fun c115 => ?_) (fun c115 => ?_)
                        · first
                            | rw [show r104 = 0 by omega, Int.add_zero, mset_id hfr.1]
                            | skip
                          refine z_iconst (pc' := 123) X dX8_isMix_122 rfl ?_
                          refine z_istore (pc' := 125) X dX8_isMix_123 rfl (by decide) rfl ?_
                          dsimp only [List.set]
                          refine z_iinc (pc' := 128) X dX8_isMix_125 rfl (by decide) rfl rfl ?_
                          dsimp only [List.set]
                          refine z_goto (tgt := 17) X dX8_isMix_128 (by decide) ?_
                          have es : mxS tx c = (c.p + 1 + 0, c.dp - 1, c.ds, c.wa, 0, c.mo, clsF c.f c.dp (tmz tx (c.p + 1)) 4) := by unfold mxS; rw [if_neg (by omega), if_neg (by omega), if_neg (by omega), if_pos (by omega), if_pos (by omega), bit_0 (by omega)]
                          have hlt := mxS_lt hok ⟨by omega, by omega⟩
                          rw [es] at hlt
                          obtain ⟨m, rfl⟩ : ∃ m, n = m + 1 := ⟨n - 1, by have hq := hM; unfold mxM at hq; rw [if_pos ⟨by omega, by omega⟩] at hq; omega⟩
                          rw [mxR_s ⟨by omega, by omega⟩, es] at hR
                          have hfr2 := mxF_D (p := c.p + 1 + 0) (q := c.p + 1) (n := tmz tx (c.p + 1)) (is := 0) hfr
                          rw [bit_0 (P := 0 < tmz tx (c.p + 1)) (by omega)]
                          refine ZP.wk (L' := [some (vR (ma 0)), some (vI _), some (vI _), some (vI _), some (vI _), some (vI _), none]) (And.intro rfl (And.intro rfl (And.intro rfl (And.intro rfl (And.intro rfl (And.intro rfl (trivial))))))) ?_
                          exact ih17 (c.p + 1 + 0, c.dp - 1, c.ds, c.wa, 0, c.mo, clsF c.f c.dp (tmz tx (c.p + 1)) 4) _ m (by exact hR) (by omega) (by exact hlt.1) (by exact hfr2) (by omega)
                        · refine z_iconst (pc' := 119) X dX8_isMix_118 rfl ?_
                          refine z_goto (tgt := 123) X dX8_isMix_119 (by decide) ?_
                          refine z_istore (pc' := 125) X dX8_isMix_123 rfl (by decide) rfl ?_
                          dsimp only [List.set]
                          refine z_iinc (pc' := 128) X dX8_isMix_125 rfl (by decide) rfl rfl ?_
                          dsimp only [List.set]
                          refine z_goto (tgt := 17) X dX8_isMix_128 (by decide) ?_
                          have es : mxS tx c = (c.p + 1 + 1, c.dp - 1, c.ds, c.wa, 1, c.mo, clsF c.f c.dp (tmz tx (c.p + 1)) 4) := by unfold mxS; rw [if_neg (by omega), if_neg (by omega), if_neg (by omega), if_pos (by omega), if_pos (by omega), bit_1 (by omega)]
                          have hlt := mxS_lt hok ⟨by omega, by omega⟩
                          rw [es] at hlt
                          obtain ⟨m, rfl⟩ : ∃ m, n = m + 1 := ⟨n - 1, by have hq := hM; unfold mxM at hq; rw [if_pos ⟨by omega, by omega⟩] at hq; omega⟩
                          rw [mxR_s ⟨by omega, by omega⟩, es] at hR
                          have hfr2 := mxF_D (p := c.p + 1 + 1) (q := c.p + 1) (n := tmz tx (c.p + 1)) (is := 1) hfr
                          rw [bit_1 (P := 0 < tmz tx (c.p + 1)) (by omega)]
                          refine ZP.wk (L' := [some (vR (ma 0)), some (vI _), some (vI _), some (vI _), some (vI _), some (vI _), none]) (And.intro rfl (And.intro rfl (And.intro rfl (And.intro rfl (And.intro rfl (And.intro rfl (trivial))))))) ?_
                          exact ih17 (c.p + 1 + 1, c.dp - 1, c.ds, c.wa, 1, c.mo, clsF c.f c.dp (tmz tx (c.p + 1)) 4) _ m (by exact hR) (by omega) (by exact hlt.1) (by exact hfr2) (by omega)
                  · rw [show r86 = 1 by omega]
                    refine z_iconst (pc' := 93) X dX8_isMix_92 rfl ?_
                    refine z_istore_n (pc' := 94) X dX8_isMix_93 rfl (by decide) rfl ?_
                    dsimp only [List.set]
                    refine z_goto (tgt := 17) X dX8_isMix_94 (by decide) ?_
                    have es : mxS tx c = (c.p + 1, c.dp, c.ds, 1, c.is, c.mo, c.f) := by unfold mxS; rw [if_neg (by omega), if_neg (by omega), if_pos (by omega)]
                    have hlt := mxS_lt hok ⟨by omega, by omega⟩
                    rw [es] at hlt
                    obtain ⟨m, rfl⟩ : ∃ m, n = m + 1 := ⟨n - 1, by have hq := hM; unfold mxM at hq; rw [if_pos ⟨by omega, by omega⟩] at hq; omega⟩
                    rw [mxR_s ⟨by omega, by omega⟩, es] at hR
                    have hfr2 := mxF_C (p := c.p + 1) (ds := c.ds) (dp := c.dp) (wa := 1) (is := c.is) (mo := c.mo) hfr
                    refine ZP.wk (L' := [some (vR (ma 0)), some (vI _), some (vI _), some (vI _), some (vI _), some (vI _), none]) (And.intro rfl (And.intro rfl (And.intro rfl (And.intro rfl (And.intro rfl (And.intro rfl (trivial))))))) ?_
                    exact ih17 (c.p + 1, c.dp, c.ds, 1, c.is, c.mo, c.f) _ m (by exact hR) (by omega) (by exact hlt.1) (by exact hfr2) (by omega)
                · have hb62 : ∀ s, 0 ≤ s → s < 4 → 0 ≤ Mx 9 (4 * c.dp + s) ∧ Mx 9 (4 * c.dp + s) ≤ 2000000 := fun s a b => by rw [hfr.2.1]; exact hok.b ⟨hkd.1, Int.le_refl _⟩ ⟨a, b⟩
                  refine z_aload_n (pc' := 61) X dX8_isMix_60 rfl rfl ?_
                  refine z_iload_n (pc' := 62) X dX8_isMix_61 rfl rfl ?_
                  refine z_V_int1 (pc' := 65) X rfl Y_X8_isTerm q2630 dX8_isMix_62 rfl (by decide) (Nat.le_refl _) (Nat.le_refl _) (Nat.le_of_ble_eq_true rfl) (c_X8_isTerm _ _ _ _ c.dp c.p tx htx hfp hk hkd hb62) (fun r62 M62 hr62 hp62 hR62 => ?_)
                  obtain ⟨f62, g62⟩ := hp62
                  subst f62
                  have htr := tr_b (tx := tx) (p := c.p) ⟨hp6.1, hp6.2.1⟩
                  refine z_istore (pc' := 67) X dX8_isMix_65 rfl (by decide) rfl ?_
                  dsimp only [List.set]
                  refine z_iload_n (pc' := 68) X dX8_isMix_67 rfl rfl ?_
                  refine z_iload_n (pc' := 69) X dX8_isMix_68 rfl rfl ?_
                  refine z_icmp_le (tgt := 76) (pc' := 72) X (by first | assumption | omega) (by first | assumption | omega) dX8_isMix_69 rfl (by decide) (fun c69 => ?_) (fun c69 => ?_)
                  · refine z_iload_n (pc' := 77) X dX8_isMix_76 rfl rfl ?_
                    refine z_istore_n (pc' := 78) X dX8_isMix_77 rfl (by decide) rfl ?_
                    dsimp only [List.set]
                    refine z_iconst (pc' := 79) X dX8_isMix_78 rfl ?_
                    refine z_istore_n (pc' := 80) X dX8_isMix_79 rfl (by decide) rfl ?_
                    dsimp only [List.set]
                    refine z_goto (tgt := 17) X dX8_isMix_80 (by decide) ?_
                    have es : mxS tx c = (trP tx c.p, c.dp, c.ds, 0, r62, c.mo, iup c.f (4 * c.dp + trD tx c.p) (c.f (4 * c.dp + trD tx c.p) + trN tx c.p)) := by unfold mxS; rw [if_neg (by omega), if_pos (by omega), if_neg (by omega)]; first | (rw [show r62 = bit (0 < trN tx c.p) by unfold bit; split <;> omega]) | skip
                    have hlt := mxS_lt hok ⟨by omega, by omega⟩
                    rw [es] at hlt
                    obtain ⟨m, rfl⟩ : ∃ m, n = m + 1 := ⟨n - 1, by have hq := hM; unfold mxM at hq; rw [if_pos ⟨by omega, by omega⟩] at hq; omega⟩
                    rw [mxR_s ⟨by omega, by omega⟩, es] at hR
                    have hfr2 := mxF_B (ds := c.ds) (wa := 0) (is := r62) (p := trP tx c.p) (i := 4 * c.dp + trD tx c.p) (n := trN tx c.p) hfr
                    refine ZP.wk (L' := [some (vR (ma 0)), some (vI _), some (vI _), some (vI _), some (vI _), some (vI _), none]) (And.intro rfl (And.intro rfl (And.intro rfl (And.intro rfl (And.intro rfl (And.intro rfl (trivial))))))) ?_
                    exact ih17 (trP tx c.p, c.dp, c.ds, 0, r62, c.mo, iup c.f (4 * c.dp + trD tx c.p) (c.f (4 * c.dp + trD tx c.p) + trN tx c.p)) _ m (by exact hR) (by omega) (by exact hlt.1) (by exact hfr2) (by omega)
                  · refine z_iload_n (pc' := 73) X dX8_isMix_72 rfl rfl ?_
                    refine z_goto (tgt := 77) X dX8_isMix_73 (by decide) ?_
                    refine z_istore_n (pc' := 78) X dX8_isMix_77 rfl (by decide) rfl ?_
                    dsimp only [List.set]
                    refine z_iconst (pc' := 79) X dX8_isMix_78 rfl ?_
                    refine z_istore_n (pc' := 80) X dX8_isMix_79 rfl (by decide) rfl ?_
                    dsimp only [List.set]
                    refine z_goto (tgt := 17) X dX8_isMix_80 (by decide) ?_
                    have es : mxS tx c = (trP tx c.p, c.dp, c.dp, 0, r62, c.mo, iup c.f (4 * c.dp + trD tx c.p) (c.f (4 * c.dp + trD tx c.p) + trN tx c.p)) := by unfold mxS; rw [if_neg (by omega), if_pos (by omega), if_pos (by omega)]; first | (rw [show r62 = bit (0 < trN tx c.p) by unfold bit; split <;> omega]) | skip
                    have hlt := mxS_lt hok ⟨by omega, by omega⟩
                    rw [es] at hlt
                    obtain ⟨m, rfl⟩ : ∃ m, n = m + 1 := ⟨n - 1, by have hq := hM; unfold mxM at hq; rw [if_pos ⟨by omega, by omega⟩] at hq; omega⟩
                    rw [mxR_s ⟨by omega, by omega⟩, es] at hR
                    have hfr2 := mxF_B (ds := c.dp) (wa := 0) (is := r62) (p := trP tx c.p) (i := 4 * c.dp + trD tx c.p) (n := trN tx c.p) hfr
                    refine ZP.wk (L' := [some (vR (ma 0)), some (vI _), some (vI _), some (vI _), some (vI _), some (vI _), none]) (And.intro rfl (And.intro rfl (And.intro rfl (And.intro rfl (And.intro rfl (And.intro rfl (trivial))))))) ?_
                    exact ih17 (trP tx c.p, c.dp, c.dp, 0, r62, c.mo, iup c.f (4 * c.dp + trD tx c.p) (c.f (4 * c.dp + trD tx c.p) + trN tx c.p)) _ m (by exact hR) (by omega) (by exact hlt.1) (by exact hfr2) (by omega)
              · refine z_iinc (pc' := 48) X dX8_isMix_45 rfl (by decide) rfl rfl ?_
                dsimp only [List.set]
                rw [show r39 = 1 by omega]
                refine z_aload_n (pc' := 49) X dX8_isMix_48 rfl rfl ?_
                refine z_iload_n (pc' := 50) X dX8_isMix_49 rfl rfl ?_
                refine z_V_void1 (pc' := 53) X rfl Y_X8_clearsMix q2618 dX8_isMix_50 rfl (by decide) (Nat.le_refl _) (Nat.le_refl _) (Nat.le_of_ble_eq_true rfl) (c_X8_clearsMix _ _ _ _ (c.dp + 1) (by omega)) (fun M50 hp50 hR50 => ?_)
                subst hp50
                refine z_goto (tgt := 17) X dX8_isMix_53 (by decide) ?_
                have es : mxS tx c = (c.p + 1, c.dp + 1, c.ds, c.wa, c.is, c.mo, fillF c.f (4 * (c.dp + 1))) := if_pos ⟨⟨by omega, by omega⟩, by omega⟩
                have hlt := mxS_lt hok ⟨by omega, by omega⟩
                rw [es] at hlt
                obtain ⟨m, rfl⟩ : ∃ m, n = m + 1 := ⟨n - 1, by have hq := hM; unfold mxM at hq; rw [if_pos ⟨by omega, by omega⟩] at hq; omega⟩
                rw [mxR_s ⟨by omega, by omega⟩, es] at hR
                have hfr2 := mxF_A hfr
                refine ZP.wk (L' := [some (vR (ma 0)), some (vI _), some (vI _), some (vI _), some (vI _), some (vI _), none]) (And.intro rfl (And.intro rfl (And.intro rfl (And.intro rfl (And.intro rfl (And.intro rfl (trivial))))))) ?_
                exact ih17 (c.p + 1, c.dp + 1, c.ds, c.wa, c.is, c.mo, fillF c.f (4 * (c.dp + 1))) _ m (by exact hR) (by omega) (by exact hlt.1) (by exact hfr2) (by omega)
  refine ZP.wk (L' := [some (vR (ma 0)), some (vI _), some (vI _), some (vI _), some (vI _), some (vI _), none]) (And.intro rfl (And.intro rfl (And.intro rfl (And.intro rfl (And.intro rfl (And.intro rfl (trivial))))))) ?_
  exact loop17 _ (mxI p (M 9)) _ 61 (by rfl) (by show (if _ then _ else _ : Int) ≤ 61; rw [if_pos ⟨rfl, rfl⟩]; show (tx.length : Int) - p + 1 ≤ 61; omega) (by exact okC_i hp2 hl3) (by exact mxF_i hp1) (Nat.lt_succ_self _)
end M20

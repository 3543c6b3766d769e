/-! THE MODEL: days, beating, packing, making -/
section M7
def nightN : Nat → St → St
  | 0, S => S
  | n + 1, S => nightS (nightN n S)
def nLostN : Nat → St → Int
  | 0, _ => 0
  | n + 1, S => nLostN n S + nLost (nightN n S)
theorem nightN_ok {D P Q : Int} {S : St} (h : okS D P Q S) : ∀ n : Nat, okS (D + n) P Q (nightN n S)
  | 0 => by rw [show D + ((0 : Nat) : Int) = D by omega]; exact h
  | n + 1 => by rw [show D + ((n + 1 : Nat) : Int) = D + n + 1 by omega]; exact nightS_ok (nightN_ok h n)
theorem nLostN_b {S : St} (hp : ∀ n : Nat, 0 ≤ (nightN n S).1 2) (hk : ∀ n : Nat, ∀ b ∈ (nightN n S).2.1, okB b) (hl : ∀ n : Nat, (nightN n S).2.1.length ≤ 24) : ∀ n : Nat, 0 ≤ nLostN n S ∧ nLostN n S ≤ 7200 * n
  | 0 => ⟨Int.le_refl _, Int.le_refl _⟩
  | n + 1 => by
    have h1 := nLostN_b hp hk hl n
    have h2 := nLost_b (hp n) (hk n) (hl n)
    show 0 ≤ nLostN n S + nLost (nightN n S) ∧ nLostN n S + nLost (nightN n S) ≤ _
    omega
theorem Y_X8_passes : zYV yX8_passes cX8_passes 4 (some .int) 1 := ⟨⟨q2376, qs82, q132, q2377⟩, by decide +kernel, by decide⟩
set_option maxRecDepth 100000 in
theorem c_X8_passes (l : Launch) (g : zG) (ma : Nat → Nat) (M : MM) (n : Int) (S : St) (D0 P Q : Int) (hS : sRep (M 1) S) (hk : okS D0 P Q S) (hD : D0 + n ≤ 1990) (hn : 0 ≤ n ∧ n ≤ 60) (hP : P ≤ 1000000) : mInt l yX8_passes cX8_passes 4 (some .int) 6 [vR (ma 0), vI n] g ma M (fun r M' => r = nLostN n.toNat S ∧ sRep (M' 1) (nightN n.toNat S) ∧ (∀ j, j ≠ 4 → M' 0 j = M 0 j) ∧ ∀ q, q ≠ 0 → q ≠ 1 → q ≠ 6 → M' q = M q) := by
  refine mInt.mk (L0 := [some (vR (ma 0)), some (vI n), none, none]) (by decide) rfl (Nat.le_of_ble_eq_true rfl) rfl (fun C h hg hl hR X => ?_)
  subst hg hl
  refine z_iconst (pc' := 1) X dX8_passes_0 rfl ?_
  refine z_istore_n (pc' := 2) X dX8_passes_1 rfl (by decide) rfl ?_
  dsimp only [List.set]
  refine z_iconst (pc' := 3) X dX8_passes_2 rfl ?_
  refine z_istore_n (pc' := 4) X dX8_passes_3 rfl (by decide) rfl ?_
  dsimp only [List.set]
  have loop4 : ∀ (N : Nat) (s k : Int) (Mx : MM), (0 ≤ k ∧ k ≤ n) → (sRep (Mx 1) (nightN k.toNat S)) → (s = nLostN k.toNat S) → (0 ≤ s ∧ s ≤ 7200 * k) → (∀ j, j ≠ 4 → Mx 0 j = M 0 j) → (∀ q, q ≠ 0 → q ≠ 1 → q ≠ 6 → Mx q = M q) → (n - k).toNat < N → ZP C 4 (mF ma h (Mx)) 0 0 [some (vR (ma 0)), some (vI n), some (vI s), some (vI k)] 4 [] := by
    intro N
    induction N with
    | zero => intro s k Mx hkk hSx hs hsb h0 hr hN; exact absurd hN (Nat.not_lt_zero _)
    | succ N ih4 =>
      intro s k Mx hkk hSx hs hsb h0 hr hN
      refine ZP.fact (P := mR (Mx)) (fun _ h => h.1.2.2.2) (fun hR4 => ?_)
      refine z_iload_n (pc' := 5) X dX8_passes_4 rfl rfl ?_
      refine z_iload_n (pc' := 6) X dX8_passes_5 rfl rfl ?_
      refine z_icmp_ge (tgt := 22) (pc' := 9) X (by first | assumption | omega) (by first | assumption | omega) dX8_passes_6 rfl (by decide) (fun c6 => ?_) (fun c6 => ?_)
      · obtain rfl : k = n := by omega
        refine z_iload_n (pc' := 23) X dX8_passes_22 rfl rfl ?_
        refine z_ireturn X dX8_passes_23 (Nat.le_refl _) (Nat.le_refl _) (fun _ hh => ⟨_, hh, _, rfl, ?_, ?_⟩)
        · first | assumption | omega
        · exact ⟨hs, hSx, h0, hr⟩
      · have hkx := nightN_ok hk k.toNat
        rw [show ((k.toNat : Nat) : Int) = k by omega] at hkx
        have hL := nLost_b (S := nightN k.toNat S) (by have := hkx.1.1; omega) hkx.2.1 hSx.2.1.2.1
        refine z_iload_n (pc' := 10) X dX8_passes_9 rfl rfl ?_
        refine z_aload_n (pc' := 11) X dX8_passes_10 rfl rfl ?_
        refine z_V_int0 (pc' := 14) X rfl Y_X8_passesDay q2378 dX8_passes_11 rfl (by decide) (Nat.le_refl _) (Nat.le_refl _) (Nat.le_of_ble_eq_true rfl) (c_X8_passesDay _ _ _ _ (nightN k.toNat S) (D0 + k) P Q hSx hkx (by omega) hP) (fun r11 M11 hr11 hp11 hR11 => ?_)
        obtain ⟨p1, p2, p3, p4, p5⟩ := hp11
        subst p1
        refine z_iadd (pc' := 15) X dX8_passes_14 rfl ?_
        refine z_istore_n (pc' := 16) X dX8_passes_15 rfl (by decide) rfl ?_
        dsimp only [List.set]
        refine z_iinc (pc' := 19) X dX8_passes_16 rfl (by decide) rfl rfl ?_
        dsimp only [List.set]
        refine z_goto (tgt := 4) X dX8_passes_19 (by decide) ?_
        refine ZP.wk (L' := [some (vR (ma 0)), some (vI n), some (vI _), some (vI _)]) (And.intro rfl (And.intro rfl (And.intro rfl (And.intro rfl (trivial))))) ?_
        exact ih4 _ _ _ (by omega) (by rw [show (k + 1).toNat = k.toNat + 1 by omega]; exact p2) (by rw [show (k + 1).toNat = k.toNat + 1 by omega, hs]; rfl) (by omega) (by exact fun j hj => (p4 j hj).trans (h0 j hj)) (by exact fun q x y z => (p5 q x y z).trans (hr q x y z)) (by omega)
  refine ZP.wk (L' := [some (vR (ma 0)), some (vI n), some (vI _), some (vI _)]) (And.intro rfl (And.intro rfl (And.intro rfl (And.intro rfl (trivial))))) ?_
  exact loop4 _ _ _ _ (by omega) (by exact hS) (by rfl) (by omega) (by exact fun _ _ => rfl) (by exact fun _ _ _ _ => rfl) (Nat.lt_succ_self _)
theorem goodM_c {M M' : MM} {s : Int} (h : M' 1 = M 1) : goodM M' s = goodM M s := by
  unfold goodM mB
  rw [h]
theorem mI_c' {M M' : MM} (h : M' 1 = M 1) (hI : mI M) : mI M' := by
  show okN (M' 1)
  rw [h]
  exact hI
theorem goodM_b {M : MM} (hI : mI M) {s : Int} : 0 ≤ goodM M s ∧ goodM M s ≤ 7200 := by
  have h1 := mI_n hI
  have h2 := zsum_le (f := fun j => if mB M j 0 = s ∧ mB M j 3 ≠ -1 then mB M j 1 else 0) (k := M 1 4) (b := 300) h1.1.1 (fun j a c => by
    have h3 := mI_b hI (p := j) ⟨a, c⟩
    split <;> omega)
  unfold goodM
  omega
def mWhyB (M : MM) (v all : Int) : Int := if 0 < mU M v then 1 else if goodM M 0 < mShare (M 1) all 0 then 2 else if goodM M 1 < mShare (M 1) all 1 then 3 else if goodM M 2 < mShare (M 1) all 2 then 4 else if goodM M 3 < mShare (M 1) all 3 then 5 else 0
theorem mWhyB_at {M : MM} {v all k : Int} (hu : mU M v ≤ 0) (hk : 0 ≤ k ∧ k ≤ 4) (h : ∀ j, 0 ≤ j → j < k → ¬ goodM M j < mShare (M 1) all j) (hc : k = 4 ∨ goodM M k < mShare (M 1) all k) : (if k = 4 then 0 else 2 + k) = mWhyB M v all := by
  have a0 : 0 < k → _ := h 0 (by omega)
  have a1 : 1 < k → _ := h 1 (by omega)
  have a2 : 2 < k → _ := h 2 (by omega)
  have a3 : 3 < k → _ := h 3 (by omega)
  unfold mWhyB
  rw [if_neg (show ¬ 0 < mU M v by omega)]
  obtain rfl | rfl | rfl | rfl | rfl : k = 0 ∨ k = 1 ∨ k = 2 ∨ k = 3 ∨ k = 4 := by omega
  · rw [if_pos (hc.resolve_left (by decide))]; rfl
  · rw [if_neg (a0 (by decide)), if_pos (hc.resolve_left (by decide))]; rfl
  · rw [if_neg (a0 (by decide)), if_neg (a1 (by decide)), if_pos (hc.resolve_left (by decide))]; rfl
  · rw [if_neg (a0 (by decide)), if_neg (a1 (by decide)), if_neg (a2 (by decide)), if_pos (hc.resolve_left (by decide))]; rfl
  · rw [if_neg (a0 (by decide)), if_neg (a1 (by decide)), if_neg (a2 (by decide)), if_neg (a3 (by decide))]; rfl
theorem Y_X8_whyNoBeating : zYV yX8_whyNoBeating cX8_whyNoBeating 4 (some .int) 2 := ⟨⟨q2218, qs56, q132, q2219⟩, by decide +kernel, by decide⟩
set_option maxRecDepth 100000 in
theorem c_X8_whyNoBeating (l : Launch) (g : zG) (ma : Nat → Nat) (M : MM) (v all : Int) (hv : 0 ≤ v ∧ v < 3) (ha : 1 ≤ all ∧ all ≤ 200) (hI : mI M) : mInt l yX8_whyNoBeating cX8_whyNoBeating 4 (some .int) 5 [vR (ma 0), vI v, vI all] g ma M (fun r M' => r = mWhyB M v all ∧ ∀ q, q ≠ 5 → M' q = M q) := by
  refine mInt.mk (L0 := [some (vR (ma 0)), some (vI v), some (vI all), none]) (by decide) rfl (Nat.le_of_ble_eq_true rfl) rfl (fun C h hg hl hR X => ?_)
  subst hg hl
  have hI1 := mI_v hI hv
  have hI9 : mI (mShB M all 4) := mI_c' (mShB_r (by decide)) hI
  refine z_aload_n (pc' := 1) X dX8_whyNoBeating_0 rfl rfl ?_
  refine z_iload_n (pc' := 2) X dX8_whyNoBeating_1 rfl rfl ?_
  refine z_V_fun1 (pc' := 5) X rfl Y_X8_units q2220 dX8_whyNoBeating_2 rfl (by decide) (Nat.le_refl _) (Nat.le_refl _) (Nat.le_of_ble_eq_true rfl) (c_X8_units _ _ _ _ _ (by first | assumption | omega)) (fun r2 hr2 hp2 => ?_)
  subst hp2
  refine z_if_le (tgt := 10) (pc' := 8) X (by first | assumption | omega) dX8_whyNoBeating_5 rfl (by decide) (fun c5 => ?_) (fun c5 => ?_)
  · refine z_aload_n (pc' := 11) X dX8_whyNoBeating_10 rfl rfl ?_
    refine z_iload_n (pc' := 12) X dX8_whyNoBeating_11 rfl rfl ?_
    refine z_V_void1 (pc' := 15) X rfl Y_X8_shares q2224 dX8_whyNoBeating_12 rfl (by decide) (Nat.le_refl _) (Nat.le_refl _) (Nat.le_of_ble_eq_true rfl) (c_X8_shares _ _ _ _ _ (by first | assumption | omega) (by first | assumption | omega)) (fun M12 hp12 hR12 => ?_)
    subst hp12
    refine z_iconst (pc' := 16) X dX8_whyNoBeating_15 rfl ?_
    refine z_istore_n (pc' := 17) X dX8_whyNoBeating_16 rfl (by decide) rfl ?_
    dsimp only [List.set]
    have loop17 : ∀ (N : Nat) (k : Int), (0 ≤ k ∧ k ≤ 4) → (∀ j, 0 ≤ j → j < k → ¬ goodM M j < mShare (M 1) all j) → (4 - k).toNat < N → ZP C 4 (mF ma h (mShB M all 4)) 0 0 [some (vR (ma 0)), some (vI v), some (vI all), some (vI k)] 17 [] := by
      intro N
      induction N with
      | zero => intro k hk hg hN; exact absurd hN (Nat.not_lt_zero _)
      | succ N ih17 =>
        intro k hk hg hN
        refine ZP.fact (P := mR (mShB M all 4)) (fun _ h => h.1.2.2.2) (fun hR17 => ?_)
        refine z_iload_n (pc' := 18) X dX8_whyNoBeating_17 rfl rfl ?_
        refine z_iconst (pc' := 19) X dX8_whyNoBeating_18 rfl ?_
        refine z_icmp_ge (tgt := 46) (pc' := 22) X (by first | assumption | omega) (by first | assumption | omega) dX8_whyNoBeating_19 rfl (by decide) (fun c19 => ?_) (fun c19 => ?_)
        · refine z_iconst (pc' := 47) X dX8_whyNoBeating_46 rfl ?_
          refine z_ireturn X dX8_whyNoBeating_47 (Nat.le_refl _) (Nat.le_refl _) (fun _ hh => ⟨_, hh, _, rfl, ?_, ?_⟩)
          · first | assumption | omega
          · obtain rfl : k = 4 := by omega
            refine ⟨?_, fun q hq => mShB_r hq⟩; rw [← mWhyB_at (k := 4) (v := v) (by omega) hk hg (Or.inl rfl)]; rfl
        · have hsh := mSh_b hI ha (j := k) (by omega)
          have hgb := goodM_b hI (s := k)
          refine z_aload_n (pc' := 23) X dX8_whyNoBeating_22 rfl rfl ?_
          refine z_iload_n (pc' := 24) X dX8_whyNoBeating_23 rfl rfl ?_
          refine z_V_fun1 (pc' := 27) X rfl Y_X8_good q2228 dX8_whyNoBeating_24 rfl (by decide) (Nat.le_refl _) (Nat.le_refl _) (Nat.le_of_ble_eq_true rfl) (c_X8_good _ _ _ _ _ (by first | assumption | omega) (by first | assumption | omega)) (fun r24 hr24 hp24 => ?_)
          subst hp24
          rw [goodM_c (M := M) (mShB_r (by decide))]
          refine z_aload_n (pc' := 28) X dX8_whyNoBeating_27 rfl rfl ?_
          refine z_mget (pc' := 31) X 6 rfl (by decide) q2069 rfl dX8_whyNoBeating_28 rfl ?_
          refine z_iload_n (pc' := 32) X dX8_whyNoBeating_31 rfl rfl ?_
          refine z_mld (pc' := 33) X (r := 5) (by decide) (show 0 ≤ _ ∧ _ < (4 : Int) by omega) dX8_whyNoBeating_32 rfl (fun hv32 => ?_)
          rw [hsh.1]
          try rw [hsh.1] at hsh
          refine z_icmp_ge (tgt := 40) (pc' := 36) X (by first | assumption | omega) (by first | assumption | omega) dX8_whyNoBeating_33 rfl (by decide) (fun c33 => ?_) (fun c33 => ?_)
          · refine z_iinc (pc' := 43) X dX8_whyNoBeating_40 rfl (by decide) rfl rfl ?_
            dsimp only [List.set]
            refine z_goto (tgt := 17) X dX8_whyNoBeating_43 (by decide) ?_
            refine ZP.wk (L' := [some (vR (ma 0)), some (vI v), some (vI all), some (vI _)]) (And.intro rfl (And.intro rfl (And.intro rfl (And.intro rfl (trivial))))) ?_
            exact ih17 _ (by omega) (by exact fun j a c => by (by_cases hj : j = k); (subst hj; omega); exact hg j a (by omega)) (by omega)
          · refine z_iconst (pc' := 37) X dX8_whyNoBeating_36 rfl ?_
            refine z_iload_n (pc' := 38) X dX8_whyNoBeating_37 rfl rfl ?_
            refine z_iadd (pc' := 39) X dX8_whyNoBeating_38 rfl ?_
            refine z_ireturn X dX8_whyNoBeating_39 (Nat.le_refl _) (Nat.le_refl _) (fun _ hh => ⟨_, hh, _, rfl, ?_, ?_⟩)
            · first | assumption | omega
            · refine ⟨?_, fun q hq => mShB_r hq⟩; rw [← mWhyB_at (k := k) (v := v) (by omega) hk hg (Or.inr (by omega)), if_neg (by omega)]
    refine ZP.wk (L' := [some (vR (ma 0)), some (vI v), some (vI all), some (vI _)]) (And.intro rfl (And.intro rfl (And.intro rfl (And.intro rfl (trivial))))) ?_
    exact loop17 _ _ (by omega) (by exact fun j a c => absurd c (by omega)) (Nat.lt_succ_self _)
  · refine z_iconst (pc' := 9) X dX8_whyNoBeating_8 rfl ?_
    refine z_ireturn X dX8_whyNoBeating_9 (Nat.le_refl _) (Nat.le_refl _) (fun _ hh => ⟨_, hh, _, rfl, ?_, ?_⟩)
    · first | assumption | omega
    · refine ⟨?_, fun q _ => rfl⟩; unfold mWhyB; rw [if_pos (by omega)]
theorem Y_X8_share : zYV yX8_share cX8_share 3 (some .int) 2 := ⟨⟨q2468, qs91, q132, q2469⟩, by decide +kernel, by decide⟩
set_option maxRecDepth 100000 in
theorem c_X8_share (l : Launch) (g : zG) (ma : Nat → Nat) (M : MM) (all s : Int) (ha : 1 ≤ all ∧ all ≤ 200) (hs : 0 ≤ s ∧ s ≤ 3) (hI : mI M) : mInt l yX8_share cX8_share 3 (some .int) 5 [vR (ma 0), vI all, vI s] g ma M (fun r M' => r = mShare (M 1) all s ∧ ∀ q, q ≠ 5 → M' q = M q) := by
  refine mInt.mk (L0 := [some (vR (ma 0)), some (vI all), some (vI s)]) (by decide) rfl (Nat.le_of_ble_eq_true rfl) rfl (fun C h hg hl hR X => ?_)
  subst hg hl
  refine z_aload_n (pc' := 1) X dX8_share_0 rfl rfl ?_
  refine z_iload_n (pc' := 2) X dX8_share_1 rfl rfl ?_
  refine z_V_void1 (pc' := 5) X rfl Y_X8_shares q2224 dX8_share_2 rfl (by decide) (Nat.le_refl _) (Nat.le_refl _) (Nat.le_of_ble_eq_true rfl) (c_X8_shares _ _ _ _ _ (by first | assumption | omega) (by first | assumption | omega)) (fun M2 hp2 hR2 => ?_)
  subst hp2
  refine z_aload_n (pc' := 6) X dX8_share_5 rfl rfl ?_
  refine z_mget (pc' := 9) X 6 rfl (by decide) q2069 rfl dX8_share_6 rfl ?_
  refine z_iload_n (pc' := 10) X dX8_share_9 rfl rfl ?_
  refine z_mld (pc' := 11) X (r := 5) (by decide) (show 0 ≤ _ ∧ _ < (4 : Int) by omega) dX8_share_10 rfl (fun hv10 => ?_)
  refine z_ireturn X dX8_share_11 (Nat.le_refl _) (Nat.le_refl _) (fun _ hh => ⟨_, hh, _, rfl, ?_, ?_⟩)
  · first | assumption | omega
  · exact ⟨(mSh_b hI ha (j := s) (by omega)).1, fun q hq => mShB_r hq⟩
def mStr (M : MM) (all : Int) : Int := zsum (fun j => mShB M all 4 5 j * strn j) 4 / all
theorem beatL_c {p : Int → Int} {b : Bl} {t : List Bl} : beatL p (b :: t) = if b.2.1 - beatX p b = 0 then beatL (iup p b.1 (p b.1 - beatX p b)) t else (b.1, b.2.1 - beatX p b, b.2.2.1, b.2.2.2) :: beatL (iup p b.1 (p b.1 - beatX p b)) t := rfl
theorem Y_X8_beats : zYV yX8_beats cX8_beats 7 (some .int) 2 := ⟨⟨q2238, qs61, q132, q2239⟩, by decide +kernel, by decide⟩
set_option maxRecDepth 100000 in
theorem c_X8_beats (l : Launch) (g : zG) (ma : Nat → Nat) (M : MM) (v all : Int) (bs : List Bl) (hv : 0 ≤ v ∧ v < 3) (ha : 1 ≤ all ∧ all ≤ 200) (hI : mI M) (hb0 : bRep (M 1) bs) : mInt l yX8_beats cX8_beats 7 (some .int) 4 [vR (ma 0), vI v, vI all] g ma M (fun r M' => r = 40 * all ∧ bRep (M' 1) (beatL (mShB M all 4 5) bs) ∧ (M' 1 (117 + 3 * v) = 40 * all ∧ M' 1 (117 + 3 * v + 1) = 0 ∧ M' 1 (117 + 3 * v + 2) = mStr M all) ∧ (∀ j, (j < 21 ∨ 117 ≤ j) → j ≠ 4 → (j < 117 + 3 * v ∨ 117 + 3 * v + 2 < j) → M' 1 j = M 1 j) ∧ ∀ q, q ≠ 1 → q ≠ 5 → M' q = M q) := by
  refine mInt.mk (L0 := [some (vR (ma 0)), some (vI v), some (vI all), none, none, none, none]) (by decide) rfl (Nat.le_of_ble_eq_true rfl) rfl (fun C h hg hl hR X => ?_)
  subst hg hl
  have hok0 := hb0.ok hI
  have hlen := hb0.2.1
  refine z_aload_n (pc' := 1) X dX8_beats_0 rfl rfl ?_
  refine z_iload_n (pc' := 2) X dX8_beats_1 rfl rfl ?_
  refine z_V_void1 (pc' := 5) X rfl Y_X8_shares q2224 dX8_beats_2 rfl (by decide) (Nat.le_refl _) (Nat.le_refl _) (Nat.le_of_ble_eq_true rfl) (c_X8_shares _ _ _ _ _ (by first | assumption | omega) (by first | assumption | omega)) (fun M2 hp2 hR2 => ?_)
  subst hp2
  refine z_iconst (pc' := 6) X dX8_beats_5 rfl ?_
  refine z_istore_n (pc' := 7) X dX8_beats_6 rfl (by decide) rfl ?_
  dsimp only [List.set]
  refine z_iconst (pc' := 8) X dX8_beats_7 rfl ?_
  refine z_istore (pc' := 10) X dX8_beats_8 rfl (by decide) rfl ?_
  dsimp only [List.set]
  have loop10 : ∀ (N : Nat) (s k : Int), (0 ≤ k ∧ k ≤ 4) → (s = zsum (fun j => mShB M all 4 5 j * strn j) k) → (0 ≤ s ∧ s ≤ 12060 * k) → (4 - k).toNat < N → ZP C 7 (mF ma h (mShB M all 4)) 0 0 [some (vR (ma 0)), some (vI v), some (vI all), some (vI s), some (vI k), none, none] 10 [] := by
    intro N
    induction N with
    | zero => intro s k hk hs hsb hN; exact absurd hN (Nat.not_lt_zero _)
    | succ N ih10 =>
      intro s k hk hs hsb hN
      refine ZP.fact (P := mR (mShB M all 4)) (fun _ h => h.1.2.2.2) (fun hR10 => ?_)
      refine z_iload (pc' := 12) X dX8_beats_10 rfl rfl ?_
      refine z_iconst (pc' := 13) X dX8_beats_12 rfl ?_
      refine z_icmp_ge (tgt := 38) (pc' := 16) X (by first | assumption | omega) (by first | assumption | omega) dX8_beats_13 rfl (by decide) (fun c13 => ?_) (fun c13 => ?_)
      · obtain rfl : k = 4 := by omega
        refine z_iconst (pc' := 39) X dX8_beats_38 rfl ?_
        refine z_istore (pc' := 41) X dX8_beats_39 rfl (by decide) rfl ?_
        dsimp only [List.set]
        have loop41 : ∀ (N : Nat) (p : Int) (Mx : MM) (D T : List Bl), (p = (D.length : Int)) → (bRep (Mx 1) (D ++ T)) → (∀ b ∈ T, okB b) → (D ++ beatL (Mx 5) T = beatL (mShB M all 4 5) bs) → (∀ j, 0 ≤ j → j < 4 → 0 ≤ Mx 5 j ∧ Mx 5 j ≤ 201) → (D.length + T.length ≤ 24) → (bO (M 1) (Mx 1)) → (∀ q, q ≠ 1 → q ≠ 5 → Mx q = M q) → T.length < N → ZP C 7 (mF ma h (Mx)) 0 0 [some (vR (ma 0)), some (vI v), some (vI all), some (vI s), some (vI p), none, none] 41 [] := by
          intro N
          induction N with
          | zero => intro p Mx D T hp hb hok hf h5 hl ho hr hN; exact absurd hN (Nat.not_lt_zero _)
          | succ N ih41 =>
            intro p Mx D T hp hb hok hf h5 hl ho hr hN
            refine ZP.fact (P := mR (Mx)) (fun _ h => h.1.2.2.2) (fun hR41 => ?_)
            subst hp
            refine z_iload (pc' := 43) X dX8_beats_41 rfl rfl ?_
            refine z_aload_n (pc' := 44) X dX8_beats_43 rfl rfl ?_
            refine z_mget (pc' := 47) X 0 rfl (by decide) q2063 rfl dX8_beats_44 rfl ?_
            refine z_iconst (pc' := 48) X dX8_beats_47 rfl ?_
            refine z_mld (pc' := 49) X (r := 1) (by decide) (show 0 ≤ _ ∧ _ < (321 : Int) by omega) dX8_beats_48 rfl (fun hv48 => ?_)
            refine z_icmp_ge (tgt := 151) (pc' := 52) X (by first | assumption | omega) (by first | assumption | omega) dX8_beats_49 rfl (by decide) (fun c49 => ?_) (fun c49 => ?_)
            · obtain rfl := hb.nil rfl c49
              have hsd : 0 ≤ s / all ∧ s / all ≤ s := ⟨Int.ediv_nonneg hsb.1 (by omega), Int.ediv_le_self _ hsb.1⟩
              refine z_aload_n (pc' := 152) X dX8_beats_151 rfl rfl ?_
              refine z_mget (pc' := 155) X 0 rfl (by decide) q2063 rfl dX8_beats_152 rfl ?_
              refine z_bipush (pc' := 157) X dX8_beats_155 rfl (by decide) ?_
              refine z_iconst (pc' := 158) X dX8_beats_157 rfl ?_
              refine z_iload_n (pc' := 159) X dX8_beats_158 rfl rfl ?_
              refine z_imul (pc' := 160) X dX8_beats_159 rfl ?_
              refine z_iadd (pc' := 161) X dX8_beats_160 rfl ?_
              refine z_bipush (pc' := 163) X dX8_beats_161 rfl (by decide) ?_
              refine z_iload_n (pc' := 164) X dX8_beats_163 rfl rfl ?_
              refine z_imul (pc' := 165) X dX8_beats_164 rfl ?_
              refine z_mst (pc' := 166) X (r := 1) (by decide) (show 0 ≤ _ ∧ _ < (321 : Int) by omega) (by first | assumption | omega) dX8_beats_165 rfl (fun hR165 => ?_)
              refine z_aload_n (pc' := 167) X dX8_beats_166 rfl rfl ?_
              refine z_mget (pc' := 170) X 0 rfl (by decide) q2063 rfl dX8_beats_167 rfl ?_
              refine z_bipush (pc' := 172) X dX8_beats_170 rfl (by decide) ?_
              refine z_iconst (pc' := 173) X dX8_beats_172 rfl ?_
              refine z_iload_n (pc' := 174) X dX8_beats_173 rfl rfl ?_
              refine z_imul (pc' := 175) X dX8_beats_174 rfl ?_
              refine z_iadd (pc' := 176) X dX8_beats_175 rfl ?_
              refine z_iconst (pc' := 177) X dX8_beats_176 rfl ?_
              refine z_iadd (pc' := 178) X dX8_beats_177 rfl ?_
              refine z_iconst (pc' := 179) X dX8_beats_178 rfl ?_
              refine z_mst (pc' := 180) X (r := 1) (by decide) (show 0 ≤ _ ∧ _ < (321 : Int) by omega) (by first | assumption | omega) dX8_beats_179 rfl (fun hR179 => ?_)
              refine z_aload_n (pc' := 181) X dX8_beats_180 rfl rfl ?_
              refine z_mget (pc' := 184) X 0 rfl (by decide) q2063 rfl dX8_beats_181 rfl ?_
              refine z_bipush (pc' := 186) X dX8_beats_184 rfl (by decide) ?_
              refine z_iconst (pc' := 187) X dX8_beats_186 rfl ?_
              refine z_iload_n (pc' := 188) X dX8_beats_187 rfl rfl ?_
              refine z_imul (pc' := 189) X dX8_beats_188 rfl ?_
              refine z_iadd (pc' := 190) X dX8_beats_189 rfl ?_
              refine z_iconst (pc' := 191) X dX8_beats_190 rfl ?_
              refine z_iadd (pc' := 192) X dX8_beats_191 rfl ?_
              refine z_iload_n (pc' := 193) X dX8_beats_192 rfl rfl ?_
              refine z_iload_n (pc' := 194) X dX8_beats_193 rfl rfl ?_
              refine z_idivp (pc' := 195) X (by first | assumption | omega) ⟨by omega, by omega⟩ dX8_beats_194 rfl ?_
              refine z_mst (pc' := 196) X (r := 1) (by decide) (show 0 ≤ _ ∧ _ < (321 : Int) by omega) (by first | assumption | omega) dX8_beats_195 rfl (fun hR195 => ?_)
              refine z_bipush (pc' := 198) X dX8_beats_196 rfl (by decide) ?_
              refine z_iload_n (pc' := 199) X dX8_beats_198 rfl rfl ?_
              refine z_imul (pc' := 200) X dX8_beats_199 rfl ?_
              refine z_ireturn X dX8_beats_200 (Nat.le_refl _) (Nat.le_refl _) (fun _ hh => ⟨_, hh, _, rfl, ?_, ?_⟩)
              · first | assumption | omega
              · rw [show beatL (Mx 5) [] = [] from rfl, List.append_nil] at hf
                rw [List.append_nil] at hb
                refine ⟨rfl, ?_, ⟨?_, ?_, ?_⟩, fun j x y z => ?_, fun q x y => ?_⟩
                · rw [← hf]; exact hb.same (by rw [mset_k (by omega), mset_k (by omega), mset_k (by omega)]) (fun j x y => by rw [mset_k (by omega), mset_k (by omega), mset_k (by omega)])
                · rw [mset_k (by omega), mset_k (by omega), mset_s]
                · rw [mset_k (by omega), mset_s]
                · rw [mset_s, hs]; rfl
                · rw [mset_k (by omega), mset_k (by omega), mset_k (by omega)]; exact ho j x y
                · rw [mset_r x, mset_r x, mset_r x]; exact hr q x y
            · obtain ⟨b, t, rfl⟩ := hb.cons rfl c49
              obtain ⟨⟨e0, e1, e2, e3⟩, hd1, hd2, hd3⟩ := hb.hd
              obtain ⟨k0, k1, k2, k3⟩ := hok b List.mem_cons_self
              have h50 := h5 b.1 k0.1 (by omega)
              have hX : 0 ≤ beatX (Mx 5) b ∧ beatX (Mx 5) b ≤ b.2.1 ∧ beatX (Mx 5) b ≤ Mx 5 b.1 := by unfold beatX; split <;> omega
              refine z_aload_n (pc' := 53) X dX8_beats_52 rfl rfl ?_
              refine z_iload (pc' := 55) X dX8_beats_53 rfl rfl ?_
              refine z_iconst (pc' := 56) X dX8_beats_55 rfl ?_
              refine z_V_fun2 (pc' := 59) X rfl Y_X8_bale q2194 dX8_beats_56 rfl (by decide) (Nat.le_refl _) (Nat.le_refl _) (Nat.le_of_ble_eq_true rfl) (c_X8_bale _ _ _ _ _ _ (by first | assumption | omega) (by first | assumption | omega)) (fun r56 hr56 hp56 => ?_)
              subst hp56
              rw [e0]
              rw [e0] at hr56
              refine z_istore (pc' := 61) X dX8_beats_59 rfl (by decide) rfl ?_
              dsimp only [List.set]
              refine z_aload_n (pc' := 62) X dX8_beats_61 rfl rfl ?_
              refine z_iload (pc' := 64) X dX8_beats_62 rfl rfl ?_
              refine z_V_fun1 (pc' := 67) X rfl Y_X8_isMouldy q2232 dX8_beats_64 rfl (by decide) (Nat.le_refl _) (Nat.le_refl _) (Nat.le_of_ble_eq_true rfl) (c_X8_isMouldy _ _ _ _ _ (by first | assumption | omega)) (fun r64 hr64 hp64 => ?_)
              refine z_if_eq (tgt := 74) (pc' := 70) X (by first | assumption | omega) dX8_beats_67 rfl (by decide) (fun c67 => ?_) (fun c67 => ?_)
              · refine z_aload_n (pc' := 75) X dX8_beats_74 rfl rfl ?_
                refine z_mget (pc' := 78) X 6 rfl (by decide) q2069 rfl dX8_beats_75 rfl ?_
                refine z_iload (pc' := 80) X dX8_beats_78 rfl rfl ?_
                refine z_mld (pc' := 81) X (r := 5) (by decide) (show 0 ≤ _ ∧ _ < (4 : Int) by omega) dX8_beats_80 rfl (fun hv80 => ?_)
                refine z_aload_n (pc' := 82) X dX8_beats_81 rfl rfl ?_
                refine z_iload (pc' := 84) X dX8_beats_82 rfl rfl ?_
                refine z_iconst (pc' := 85) X dX8_beats_84 rfl ?_
                refine z_V_fun2 (pc' := 88) X rfl Y_X8_bale q2194 dX8_beats_85 rfl (by decide) (Nat.le_refl _) (Nat.le_refl _) (Nat.le_of_ble_eq_true rfl) (c_X8_bale _ _ _ _ _ _ (by first | assumption | omega) (by first | assumption | omega)) (fun r85 hr85 hp85 => ?_)
                subst hp85
                rw [e1]
                rw [e1] at hr85
                refine z_S_fun2 (pc' := 91) X Y_X8_least q2243 dX8_beats_88 rfl (by decide) (Nat.le_refl _) (Nat.le_refl _) (Nat.le_of_ble_eq_true rfl) (fun h _ => c_X8_least _ _ _ _ _ (by first | assumption | omega) (by first | assumption | omega)) (fun r88 hr88 hp88 => ?_)
                subst hp88
                refine ZP.top (a' := beatX (Mx 5) b) (by unfold beatX; first | rw [if_pos (by omega)] | rw [if_neg (by omega)]) ?_
                refine z_istore (pc' := 93) X dX8_beats_91 rfl (by decide) rfl ?_
                dsimp only [List.set]
                refine z_aload_n (pc' := 94) X dX8_beats_93 rfl rfl ?_
                refine z_mget (pc' := 97) X 6 rfl (by decide) q2069 rfl dX8_beats_94 rfl ?_
                refine z_iload (pc' := 99) X dX8_beats_97 rfl rfl ?_
                refine z_dup2 (pc' := 100) X rfl rfl dX8_beats_99 rfl ?_
                refine z_mld (pc' := 101) X (r := 5) (by decide) (show 0 ≤ _ ∧ _ < (4 : Int) by omega) dX8_beats_100 rfl (fun hv100 => ?_)
                refine z_iload (pc' := 103) X dX8_beats_101 rfl rfl ?_
                refine z_isub (pc' := 104) X dX8_beats_103 rfl ?_
                refine z_mst (pc' := 105) X (r := 5) (by decide) (show 0 ≤ _ ∧ _ < (4 : Int) by omega) (by first | assumption | omega) dX8_beats_104 rfl (fun hR104 => ?_)
                have hb1 : bRep (mset Mx 5 b.1 (Mx 5 b.1 - beatX (Mx 5) b) 1) (D ++ b :: t) := by rw [mset_r (by decide)]; exact hb
                refine z_aload_n (pc' := 106) X dX8_beats_105 rfl rfl ?_
                refine z_iload (pc' := 108) X dX8_beats_106 rfl rfl ?_
                refine z_iconst (pc' := 109) X dX8_beats_108 rfl ?_
                refine z_aload_n (pc' := 110) X dX8_beats_109 rfl rfl ?_
                refine z_iload (pc' := 112) X dX8_beats_110 rfl rfl ?_
                refine z_iconst (pc' := 113) X dX8_beats_112 rfl ?_
                refine z_V_fun2 (pc' := 116) X rfl Y_X8_bale q2194 dX8_beats_113 rfl (by decide) (Nat.le_refl _) (Nat.le_refl _) (Nat.le_of_ble_eq_true rfl) (c_X8_bale _ _ _ _ _ _ (by first | assumption | omega) (by first | assumption | omega)) (fun r113 hr113 hp113 => ?_)
                subst hp113
                rw [mB_r (by decide), e1]
                rw [mB_r (by decide), e1] at hr113
                refine z_iload (pc' := 118) X dX8_beats_116 rfl rfl ?_
                refine z_isub (pc' := 119) X dX8_beats_118 rfl ?_
                refine z_V_void3 (pc' := 122) X rfl Y_X8_lay q2162 dX8_beats_119 rfl (by decide) (Nat.le_refl _) (Nat.le_refl _) (Nat.le_of_ble_eq_true rfl) (c_X8_lay _ _ _ _ _ _ _ (by first | assumption | omega) (by first | assumption | omega) (by first | assumption | omega)) (fun M119 hp119 hR119 => ?_)
                subst hp119
                have hb2 := hb1.rags (z := b.2.1 - beatX (Mx 5) b)
                have hc2 := hb2.1.hd
                refine z_aload_n (pc' := 123) X dX8_beats_122 rfl rfl ?_
                refine z_iload (pc' := 125) X dX8_beats_123 rfl rfl ?_
                refine z_iconst (pc' := 126) X dX8_beats_125 rfl ?_
                refine z_V_fun2 (pc' := 129) X rfl Y_X8_bale q2194 dX8_beats_126 rfl (by decide) (Nat.le_refl _) (Nat.le_refl _) (Nat.le_of_ble_eq_true rfl) (c_X8_bale _ _ _ _ _ _ (by first | assumption | omega) (by first | assumption | omega)) (fun r126 hr126 hp126 => ?_)
                subst hp126
                rw [mB_s]
                rw [mB_s] at hr126
                refine z_if_ne (tgt := 145) (pc' := 132) X (by first | assumption | omega) dX8_beats_129 rfl (by decide) (fun c129 => ?_) (fun c129 => ?_)
                · refine z_iinc (pc' := 148) X dX8_beats_145 rfl (by decide) rfl rfl ?_
                  dsimp only [List.set]
                  refine z_goto (tgt := 41) X dX8_beats_148 (by decide) ?_
                  refine ZP.wk (L' := [some (vR (ma 0)), some (vI v), some (vI all), some (vI s), some (vI _), none, none]) (And.intro rfl (And.intro rfl (And.intro rfl (And.intro rfl (And.intro rfl (trivial)))))) ?_
                  exact ih41 _ _ (D ++ [(b.1, b.2.1 - beatX (Mx 5) b, b.2.2.1, b.2.2.2)]) t (by rw [List.length_append]; rfl) (by rw [List.append_assoc]; exact hb2.1) (by exact fun q hq => hok q (List.mem_cons_of_mem _ hq)) (by rw [mset_r (by decide), mset_f, List.append_assoc, ← hf, beatL_c, if_neg c129]; rfl) (by intro j x y; rw [mset_r (by decide), mset_f, iup_i]; have := h5 j x y; split <;> omega) (by rw [List.length_cons] at hl; rw [List.length_append]; show D.length + 1 + _ ≤ 24; omega) (by exact (show bO (M 1) (mset Mx 5 b.1 (Mx 5 b.1 - beatX (Mx 5) b) 1) by rw [mset_r (by decide)]; exact ho).tr hb2.2) (by exact fun q hq h => (mset_r hq).trans ((mset_r h).trans (hr q hq h))) (by rw [List.length_cons] at hN; omega)
                · have hb3 := hb2.1.out
                  refine z_aload_n (pc' := 133) X dX8_beats_132 rfl rfl ?_
                  refine z_bipush (pc' := 135) X dX8_beats_133 rfl (by decide) ?_
                  refine z_iconst (pc' := 136) X dX8_beats_135 rfl ?_
                  refine z_iload (pc' := 138) X dX8_beats_136 rfl rfl ?_
                  refine z_iconst (pc' := 139) X dX8_beats_138 rfl ?_
                  refine z_V_void4 (pc' := 142) X rfl Y_X8_takesOut q2202 dX8_beats_139 rfl (by decide) (Nat.le_refl _) (Nat.le_refl _) (Nat.le_of_ble_eq_true rfl) (c_X8_takesOut_b _ _ _ _ _ ⟨by omega, hc2.2.1⟩ hc2.2.2.1) (fun M139 hp139 hR139 => ?_)
                  subst hp139
                  refine z_goto (tgt := 148) X dX8_beats_142 (by decide) ?_
                  refine z_goto (tgt := 41) X dX8_beats_148 (by decide) ?_
                  refine ZP.wk (L' := [some (vR (ma 0)), some (vI v), some (vI all), some (vI s), some (vI _), none, none]) (And.intro rfl (And.intro rfl (And.intro rfl (And.intro rfl (And.intro rfl (trivial)))))) ?_
                  exact ih41 _ _ D t (by rfl) (by exact hb3.1) (by exact fun q hq => hok q (List.mem_cons_of_mem _ hq)) (by rw [hb3.2.2 5 (by decide), mset_r (by decide), mset_f, ← hf, beatL_c, if_pos c129]) (by intro j x y; rw [hb3.2.2 5 (by decide), mset_r (by decide), mset_f, iup_i]; have := h5 j x y; split <;> omega) (by rw [List.length_cons] at hl; omega) (by exact ((show bO (M 1) (mset Mx 5 b.1 (Mx 5 b.1 - beatX (Mx 5) b) 1) by rw [mset_r (by decide)]; exact ho).tr hb2.2).tr hb3.2.1) (by exact fun q hq h => (hb3.2.2 q hq).trans ((mset_r hq).trans ((mset_r h).trans (hr q hq h)))) (by rw [List.length_cons] at hN; omega)
              · refine z_iconst (pc' := 71) X dX8_beats_70 rfl ?_
                refine z_goto (tgt := 91) X dX8_beats_71 (by decide) ?_
                refine ZP.top (a' := beatX (Mx 5) b) (by unfold beatX; first | rw [if_pos (by omega)] | rw [if_neg (by omega)]) ?_
                refine z_istore (pc' := 93) X dX8_beats_91 rfl (by decide) rfl ?_
                dsimp only [List.set]
                refine z_aload_n (pc' := 94) X dX8_beats_93 rfl rfl ?_
                refine z_mget (pc' := 97) X 6 rfl (by decide) q2069 rfl dX8_beats_94 rfl ?_
                refine z_iload (pc' := 99) X dX8_beats_97 rfl rfl ?_
                refine z_dup2 (pc' := 100) X rfl rfl dX8_beats_99 rfl ?_
                refine z_mld (pc' := 101) X (r := 5) (by decide) (show 0 ≤ _ ∧ _ < (4 : Int) by omega) dX8_beats_100 rfl (fun hv100 => ?_)
                refine z_iload (pc' := 103) X dX8_beats_101 rfl rfl ?_
                refine z_isub (pc' := 104) X dX8_beats_103 rfl ?_
                refine z_mst (pc' := 105) X (r := 5) (by decide) (show 0 ≤ _ ∧ _ < (4 : Int) by omega) (by first | assumption | omega) dX8_beats_104 rfl (fun hR104 => ?_)
                have hb1 : bRep (mset Mx 5 b.1 (Mx 5 b.1 - beatX (Mx 5) b) 1) (D ++ b :: t) := by rw [mset_r (by decide)]; exact hb
                refine z_aload_n (pc' := 106) X dX8_beats_105 rfl rfl ?_
                refine z_iload (pc' := 108) X dX8_beats_106 rfl rfl ?_
                refine z_iconst (pc' := 109) X dX8_beats_108 rfl ?_
                refine z_aload_n (pc' := 110) X dX8_beats_109 rfl rfl ?_
                refine z_iload (pc' := 112) X dX8_beats_110 rfl rfl ?_
                refine z_iconst (pc' := 113) X dX8_beats_112 rfl ?_
                refine z_V_fun2 (pc' := 116) X rfl Y_X8_bale q2194 dX8_beats_113 rfl (by decide) (Nat.le_refl _) (Nat.le_refl _) (Nat.le_of_ble_eq_true rfl) (c_X8_bale _ _ _ _ _ _ (by first | assumption | omega) (by first | assumption | omega)) (fun r113 hr113 hp113 => ?_)
                subst hp113
                rw [mB_r (by decide), e1]
                rw [mB_r (by decide), e1] at hr113
                refine z_iload (pc' := 118) X dX8_beats_116 rfl rfl ?_
                refine z_isub (pc' := 119) X dX8_beats_118 rfl ?_
                refine z_V_void3 (pc' := 122) X rfl Y_X8_lay q2162 dX8_beats_119 rfl (by decide) (Nat.le_refl _) (Nat.le_refl _) (Nat.le_of_ble_eq_true rfl) (c_X8_lay _ _ _ _ _ _ _ (by first | assumption | omega) (by first | assumption | omega) (by first | assumption | omega)) (fun M119 hp119 hR119 => ?_)
                subst hp119
                have hb2 := hb1.rags (z := b.2.1 - beatX (Mx 5) b)
                have hc2 := hb2.1.hd
                refine z_aload_n (pc' := 123) X dX8_beats_122 rfl rfl ?_
                refine z_iload (pc' := 125) X dX8_beats_123 rfl rfl ?_
                refine z_iconst (pc' := 126) X dX8_beats_125 rfl ?_
                refine z_V_fun2 (pc' := 129) X rfl Y_X8_bale q2194 dX8_beats_126 rfl (by decide) (Nat.le_refl _) (Nat.le_refl _) (Nat.le_of_ble_eq_true rfl) (c_X8_bale _ _ _ _ _ _ (by first | assumption | omega) (by first | assumption | omega)) (fun r126 hr126 hp126 => ?_)
                subst hp126
                rw [mB_s]
                rw [mB_s] at hr126
                refine z_if_ne (tgt := 145) (pc' := 132) X (by first | assumption | omega) dX8_beats_129 rfl (by decide) (fun c129 => ?_) (fun c129 => ?_)
                · refine z_iinc (pc' := 148) X dX8_beats_145 rfl (by decide) rfl rfl ?_
                  dsimp only [List.set]
                  refine z_goto (tgt := 41) X dX8_beats_148 (by decide) ?_
                  refine ZP.wk (L' := [some (vR (ma 0)), some (vI v), some (vI all), some (vI s), some (vI _), none, none]) (And.intro rfl (And.intro rfl (And.intro rfl (And.intro rfl (And.intro rfl (trivial)))))) ?_
                  exact ih41 _ _ (D ++ [(b.1, b.2.1 - beatX (Mx 5) b, b.2.2.1, b.2.2.2)]) t (by rw [List.length_append]; rfl) (by rw [List.append_assoc]; exact hb2.1) (by exact fun q hq => hok q (List.mem_cons_of_mem _ hq)) (by rw [mset_r (by decide), mset_f, List.append_assoc, ← hf, beatL_c, if_neg c129]; rfl) (by intro j x y; rw [mset_r (by decide), mset_f, iup_i]; have := h5 j x y; split <;> omega) (by rw [List.length_cons] at hl; rw [List.length_append]; show D.length + 1 + _ ≤ 24; omega) (by exact (show bO (M 1) (mset Mx 5 b.1 (Mx 5 b.1 - beatX (Mx 5) b) 1) by rw [mset_r (by decide)]; exact ho).tr hb2.2) (by exact fun q hq h => (mset_r hq).trans ((mset_r h).trans (hr q hq h))) (by rw [List.length_cons] at hN; omega)
                · have hb3 := hb2.1.out
                  refine z_aload_n (pc' := 133) X dX8_beats_132 rfl rfl ?_
                  refine z_bipush (pc' := 135) X dX8_beats_133 rfl (by decide) ?_
                  refine z_iconst (pc' := 136) X dX8_beats_135 rfl ?_
                  refine z_iload (pc' := 138) X dX8_beats_136 rfl rfl ?_
                  refine z_iconst (pc' := 139) X dX8_beats_138 rfl ?_
                  refine z_V_void4 (pc' := 142) X rfl Y_X8_takesOut q2202 dX8_beats_139 rfl (by decide) (Nat.le_refl _) (Nat.le_refl _) (Nat.le_of_ble_eq_true rfl) (c_X8_takesOut_b _ _ _ _ _ ⟨by omega, hc2.2.1⟩ hc2.2.2.1) (fun M139 hp139 hR139 => ?_)
                  subst hp139
                  refine z_goto (tgt := 148) X dX8_beats_142 (by decide) ?_
                  refine z_goto (tgt := 41) X dX8_beats_148 (by decide) ?_
                  refine ZP.wk (L' := [some (vR (ma 0)), some (vI v), some (vI all), some (vI s), some (vI _), none, none]) (And.intro rfl (And.intro rfl (And.intro rfl (And.intro rfl (And.intro rfl (trivial)))))) ?_
                  exact ih41 _ _ D t (by rfl) (by exact hb3.1) (by exact fun q hq => hok q (List.mem_cons_of_mem _ hq)) (by rw [hb3.2.2 5 (by decide), mset_r (by decide), mset_f, ← hf, beatL_c, if_pos c129]) (by intro j x y; rw [hb3.2.2 5 (by decide), mset_r (by decide), mset_f, iup_i]; have := h5 j x y; split <;> omega) (by rw [List.length_cons] at hl; omega) (by exact ((show bO (M 1) (mset Mx 5 b.1 (Mx 5 b.1 - beatX (Mx 5) b) 1) by rw [mset_r (by decide)]; exact ho).tr hb2.2).tr hb3.2.1) (by exact fun q hq h => (hb3.2.2 q hq).trans ((mset_r hq).trans ((mset_r h).trans (hr q hq h)))) (by rw [List.length_cons] at hN; omega)
        refine ZP.wk (L' := [some (vR (ma 0)), some (vI v), some (vI all), some (vI s), some (vI _), none, none]) (And.intro rfl (And.intro rfl (And.intro rfl (And.intro rfl (And.intro rfl (trivial)))))) ?_
        exact loop41 _ _ _ [] bs (by rfl) (by rw [mShB_r (by decide)]; exact hb0) (by exact hok0) (by rfl) (by exact fun j a c => (mSh_b hI ha ⟨a, c⟩).2) (by rw [List.length_nil]; omega) (by rw [mShB_r (by decide)]; exact bO.rf) (by exact fun q _ h => mShB_r h) (Nat.lt_succ_self _)
      · have hsh := mSh_b hI ha (j := k) (by omega)
        have hsn := strn_b k
        refine z_iload_n (pc' := 17) X dX8_beats_16 rfl rfl ?_
        refine z_aload_n (pc' := 18) X dX8_beats_17 rfl rfl ?_
        refine z_mget (pc' := 21) X 6 rfl (by decide) q2069 rfl dX8_beats_18 rfl ?_
        refine z_iload (pc' := 23) X dX8_beats_21 rfl rfl ?_
        refine z_mld (pc' := 24) X (r := 5) (by decide) (show 0 ≤ _ ∧ _ < (4 : Int) by omega) dX8_beats_23 rfl (fun hv23 => ?_)
        refine z_iload (pc' := 26) X dX8_beats_24 rfl rfl ?_
        refine z_S_fun1 (pc' := 29) X Y_X8_strength q2240 dX8_beats_26 rfl (by decide) (Nat.le_refl _) (Nat.le_refl _) (Nat.le_of_ble_eq_true rfl) (fun h _ => c_X8_strength _ _ _ _ (by first | assumption | omega)) (fun r26 hr26 hp26 => ?_)
        subst hp26
        rw [show (if k = 0 then (50 : Int) else if k = 1 then 30 else if k = 2 then 60 else 10) = strn k from rfl]
        have hmm := mulb (a := mShB M all 4 5 k) (b := strn k) (A := 201) (B := 60) (by omega) (by omega)
        refine z_imul (pc' := 30) X dX8_beats_29 rfl ?_
        refine z_iadd (pc' := 31) X dX8_beats_30 rfl ?_
        refine z_istore_n (pc' := 32) X dX8_beats_31 rfl (by decide) rfl ?_
        dsimp only [List.set]
        refine z_iinc (pc' := 35) X dX8_beats_32 rfl (by decide) rfl rfl ?_
        dsimp only [List.set]
        refine z_goto (tgt := 10) X dX8_beats_35 (by decide) ?_
        refine ZP.wk (L' := [some (vR (ma 0)), some (vI v), some (vI all), some (vI _), some (vI _), none, none]) (And.intro rfl (And.intro rfl (And.intro rfl (And.intro rfl (And.intro rfl (trivial)))))) ?_
        exact ih10 _ _ (by omega) (by rw [zsum_s hk.1, ← hs]) (by omega) (by omega)
  refine ZP.wk (L' := [some (vR (ma 0)), some (vI v), some (vI all), some (vI _), some (vI _), none, none]) (And.intro rfl (And.intro rfl (And.intro rfl (And.intro rfl (And.intro rfl (trivial)))))) ?_
  exact loop10 _ _ _ (by omega) (by exact (zsum_0 _).symm) (by omega) (Nat.lt_succ_self _)
end M7

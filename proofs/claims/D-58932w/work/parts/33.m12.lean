/-! THE MODEL: calls that change the mill, 3 -/
section M12
theorem mWhyS0 {M : MM} {v m n : Int} (h : mWhyS M v m n = 0) : mU M v ≠ 0 ∧ n * mZ (m % 3) ≤ mU M v ∧ mMo M m 1 + n ≤ 2000 ∧ M 1 5 ≠ 12 ∧ 30 ≤ mPts M v m := by
  unfold mWhyS at h
  by_cases h1 : mU M v = 0
  · rw [if_pos h1] at h; omega
  rw [if_neg h1] at h
  by_cases h2 : mU M v < n * mZ (m % 3)
  · rw [if_pos h2] at h; omega
  rw [if_neg h2] at h
  by_cases h3 : 2000 < mMo M m 1 + n
  · rw [if_pos h3] at h; omega
  rw [if_neg h3] at h
  by_cases h4 : M 1 5 = 12
  · rw [if_pos h4] at h; omega
  rw [if_neg h4] at h
  by_cases h5 : mPts M v m < 30
  · rw [if_pos h5] at h; omega
  exact ⟨h1, Int.not_lt.mp h2, Int.not_lt.mp h3, h4, Int.not_lt.mp h5⟩
theorem mWhyQ_S {M : MM} {S : St} (h : sRep (M 1) S) {a b c : Int} : (if dryM M a b c < 480 then (1 : Int) else if M 1 6 = 30 then 2 else 0) = whyQS S a b c := by
  unfold whyQS
  rw [dryM_L h.2.2.1, h.2.2.2.1]
  by_cases h1 : S.2.2.2.length = 30
  · rw [if_pos h1, if_pos (by omega : (S.2.2.2.length : Int) = 30)]
  · rw [if_neg h1, if_neg (by omega : ¬ (S.2.2.2.length : Int) = 30)]
theorem whyQ0 {S : St} {a b c : Int} (h : whyQS S a b c = 0) : 480 ≤ dryL a b c S.2.2.1 ∧ S.2.2.2.length ≠ 30 := by
  unfold whyQS at h
  by_cases h1 : dryL a b c S.2.2.1 < 480
  · rw [if_pos h1] at h; omega
  rw [if_neg h1] at h
  by_cases h2 : S.2.2.2.length = 30
  · rw [if_pos h2] at h; omega
  exact ⟨Int.not_lt.mp h1, h2⟩
/-- a number of the mill's may become z at place j -/
def okJ (D P Q j z : Int) : Prop := (j = 0 → 0 ≤ z ∧ z ≤ D) ∧ (j = 1 → 0 ≤ z ∧ z ≤ P) ∧ (j = 2 → 0 ≤ z ∧ z ≤ 3) ∧ (j = 3 → 0 ≤ z ∧ z ≤ 99) ∧ (j = 7 → 0 ≤ z ∧ z ≤ Q) ∧ (j < 8 ∨ 12 < j) ∧
  (∀ c, 0 ≤ c → c < 4 → (j = 13 + 2 * c → 0 ≤ z ∧ z ≤ 300) ∧ (j = 13 + 2 * c + 1 → -1 ≤ z ∧ z ≤ 1100)) ∧
  (∀ v, 0 ≤ v → v < 3 → (j = 117 + 3 * v → 0 ≤ z ∧ z ≤ 8000) ∧ (j = 117 + 3 * v + 1 → 0 ≤ z ∧ z ≤ 48) ∧ (j = 117 + 3 * v + 2 → 0 ≤ z ∧ z ≤ 60)) ∧
  (∀ v, 0 ≤ v → v < 5 → (j = 126 + 3 * v → 0 ≤ z ∧ z ≤ 9) ∧ (j = 126 + 3 * v + 1 → 0 ≤ z ∧ z ≤ 2000) ∧ (j = 126 + 3 * v + 2 → 0 ≤ z ∧ z ≤ 99))
theorem iup_ok {f : Int → Int} {i j z a b : Int} (h : a ≤ f i ∧ f i ≤ b) (hz : j = i → a ≤ z ∧ z ≤ b) : a ≤ iup f j z i ∧ iup f j z i ≤ b := by
  by_cases q : i = j
  · subst q; rw [iup_s]; exact hz rfl
  · rw [iup_n q]; exact h
theorem okSc.up {D P Q j z : Int} {f : Int → Int} (h : okSc D P Q f) (hz : okJ D P Q j z) : okSc D P Q (iup f j z) := by
  obtain ⟨⟨a0, a1, a2, a3, a7⟩, hp, hc, hv, hm⟩ := h
  obtain ⟨z0, z1, z2, z3, z7, zp, zc, zv, zm⟩ := hz
  refine ⟨⟨iup_ok a0 z0, iup_ok a1 z1, iup_ok a2 z2, iup_ok a3 z3, iup_ok a7 z7⟩, ?_, fun c x y => ⟨iup_ok (hc c x y).1 (zc c x y).1, iup_ok (hc c x y).2 (zc c x y).2⟩, fun c x y => ⟨iup_ok (hv c x y).1 (zv c x y).1, iup_ok (hv c x y).2.1 (zv c x y).2.1, iup_ok (hv c x y).2.2 (zv c x y).2.2⟩, fun c x y => ⟨iup_ok (hm c x y).1 (zm c x y).1, iup_ok (hm c x y).2.1 (zm c x y).2.1, iup_ok (hm c x y).2.2 (zm c x y).2.2⟩⟩
  rw [iup_n (by omega), iup_n (by omega), iup_n (by omega), iup_n (by omega), iup_n (by omega)]
  exact hp
theorem okSc.mono {D P Q P' Q' : Int} {f : Int → Int} (h : okSc D P Q f) (hP : P ≤ P') (hQ : Q ≤ Q') : okSc D P' Q' f := by
  obtain ⟨⟨a0, a1, a2, a3, a7⟩, r⟩ := h
  exact ⟨⟨a0, ⟨a1.1, by omega⟩, a2, a3, ⟨a7.1, by omega⟩⟩, r⟩
theorem okS.mono {D P Q P' Q' : Int} {S : St} (h : okS D P Q S) (hP : P ≤ P') (hQ : Q ≤ Q') : okS D P' Q' S := ⟨h.1.mono hP hQ, h.2⟩
theorem dryL_nn {D a b c : Int} : ∀ ps : List Pl, (∀ b ∈ ps, okPd D b) → 0 ≤ dryL a b c ps
  | [], _ => Int.le_refl 0
  | q :: t, h => by
    have h1 := dryL_nn (a := a) (b := b) (c := c) t (fun x hx => h x (List.mem_cons_of_mem _ hx))
    have h2 := (h q List.mem_cons_self).2.2.2.1
    show 0 ≤ dryX a b c q + dryL a b c t
    unfold dryX
    split <;> omega
theorem rR_at {M : MM} {qs : List Bl} (h : rRep (M 1) qs) {i : Int} (hi : 0 ≤ i ∧ i < qs.length) : mRm M i 0 = (atB qs i).1 ∧ mRm M i 1 = (atB qs i).2.1 ∧ mRm M i 2 = (atB qs i).2.2.1 ∧ mRm M i 3 = (atB qs i).2.2.2 := by
  obtain ⟨b, hb, -, -⟩ := rmL_at hi
  have e : atB qs i = b := by unfold atB; rw [hb]; rfl
  rw [e]
  have q := h.2.2 i.toNat b hb
  rw [show ((i.toNat : Nat) : Int) = i by omega] at q
  exact q
theorem atB_mem {qs : List Bl} {i : Int} (hi : 0 ≤ i ∧ i < qs.length) : atB qs i ∈ qs := by
  obtain ⟨b, hb, -, -⟩ := rmL_at hi
  have e : atB qs i = b := by unfold atB; rw [hb]; rfl
  rw [e]
  exact List.mem_of_getElem? hb
theorem price_ok {q : Bl} (h : okQ q) : 0 ≤ priceQ q ∧ priceQ q ≤ 390 := by
  obtain ⟨-, h1, h2, h3⟩ := h
  unfold priceQ
  have hf : 0 ≤ mFull q.2.1 q.2.2.1 ∧ mFull q.2.1 q.2.2.1 ≤ 390 := by unfold mFull; (repeat' split) <;> omega
  have h4 : 0 ≤ mFull q.2.1 q.2.2.1 * q.2.2.2 := Int.mul_nonneg hf.1 h3.1
  have h5 : mFull q.2.1 q.2.2.1 * q.2.2.2 ≤ 390 * 20 := Int.mul_le_mul hf.2 h3.2 h3.1 (by decide)
  omega
theorem units_ok {q : Bl} (h : okQ q) : 0 ≤ unitsQ q ∧ unitsQ q ≤ 1920 := by
  obtain ⟨-, h1, h2, h3⟩ := h
  unfold unitsQ mZ
  (repeat' split) <;> omega
theorem send_end {M : MM} {S : St} {i : Int} (hi : 0 ≤ i ∧ i < S.2.2.2.length) (h : sRep (M 1) S) : sRep (mTake M 201 4 i 6 1) (S.1, S.2.1, S.2.2.1, rmL S.2.2.2 i) ∧ ∀ q, q ≠ 1 → mTake M 201 4 i 6 q = M q := by
  obtain ⟨hs, hb, hp, hr⟩ := h
  obtain ⟨b, hbi, hbs, hbl⟩ := rmL_at hi
  rw [hbs] at hr
  have hl : (((S.2.2.2.take i.toNat).length : Nat) : Int) = i := by rw [hbl]; omega
  have ho := hr.out
  rw [hl] at ho
  obtain ⟨o1, o2, o3⟩ := ho
  refine ⟨⟨fun j hj => ?_, hb.same (o2 _ (by omega) (by omega)) (fun j x y => o2 _ (by omega) (by omega)), hp.same (o2 _ (by omega) (by omega)) (fun j x y => o2 _ (by omega) (by omega)), o1⟩, o3⟩
  rw [o2 j (by unfold scI at hj; omega) (by unfold scI at hj; omega)]
  exact hs j hj
theorem Y_X8_stamp : zYV yX8_stamp cX8_stamp 3 (some .int) 2 := ⟨⟨q2247, q2248, q132, q2249⟩, by decide +kernel, by decide⟩
set_option maxRecDepth 100000 in
theorem c_X8_stamp (l : Launch) (g : zG) (ma : Nat → Nat) (M : MM) (v t : Int) (A : Ab) (P Q : Int) (hv : rng v) (ht : rng t) (hA : mRep M A) (hk : okA P Q A) (hP : P ≤ 900000) (hQ : Q ≤ 9000000) : mInt l yX8_stamp cX8_stamp 3 (some .int) 12 [vR (ma 0), vI v, vI t] g ma M (fun r M' => outP (gStp A.1 v t) A (A.1.1 (117 + 3 * v + 1) + t) (svA A (stpS v t A.1)) r M') := by
  refine mInt.mk (L0 := [some (vR (ma 0)), some (vI v), some (vI t)]) (by decide) rfl (Nat.le_of_ble_eq_true rfl) rfl (fun C h hg hl hR X => ?_)
  subst hg hl
  obtain ⟨hS, hN, hH, hT⟩ := id hA
  obtain ⟨hkS, -, -, -⟩ := id hk
  obtain ⟨⟨kc1, -, kc3, kc4, kc5⟩, kb, kp, kq⟩ := id hkS
  have hI := hk.I hA hP hQ
  have hn := mI_n hI
  have hh0 : 0 ≤ M 0 0 ∧ M 0 0 ≤ 5 := ⟨by rw [hH.1]; omega, by rw [hH.1]; have := hH.2.1; omega⟩
  have s0 := sc_at hA (j := 0) (by unfold scI; omega)
  have s1 := sc_at hA (j := 1) (by unfold scI; omega)
  refine z_aload_n (pc' := 1) X dX8_stamp_0 rfl rfl ?_
  refine z_iload_n (pc' := 2) X dX8_stamp_1 rfl rfl ?_
  refine z_S_fun1 (pc' := 5) X Y_X8_isVat q2210 dX8_stamp_2 rfl (by decide) (Nat.le_refl _) (Nat.le_refl _) (Nat.le_of_ble_eq_true rfl) (fun h _ => c_X8_isVat _ _ _ _ (by first | assumption | omega)) (fun r2 hr2 hp2 => ?_)
  refine z_if_ne (tgt := 12) (pc' := 8) X (by first | assumption | omega) dX8_stamp_5 rfl (by decide) (fun c5 => ?_) (fun c5 => ?_)
  · refine z_iload_n (pc' := 13) X dX8_stamp_12 rfl rfl ?_
    refine z_iconst (pc' := 14) X dX8_stamp_13 rfl ?_
    refine z_bipush (pc' := 16) X dX8_stamp_14 rfl (by decide) ?_
    refine z_S_fun3 (pc' := 19) X Y_X8_in q2123 dX8_stamp_16 rfl (by decide) (Nat.le_refl _) (Nat.le_refl _) (Nat.le_of_ble_eq_true rfl) (fun h _ => c_X8_in _ _ _ _ _ _ (by first | assumption | omega) (by first | assumption | omega) (by first | assumption | omega)) (fun r16 hr16 hp16 => ?_)
    refine z_if_ne (tgt := 26) (pc' := 22) X (by first | assumption | omega) dX8_stamp_19 rfl (by decide) (fun c19 => ?_) (fun c19 => ?_)
    · have k26 := (kc4 v (by omega) (by omega)).2.1
      have e26 := mV_S hS (v := v) (w := 1) (by omega) (by omega)
      have e29 := mU_S hS (v := v) (by omega)
      refine z_aload_n (pc' := 27) X dX8_stamp_26 rfl rfl ?_
      refine z_iload_n (pc' := 28) X dX8_stamp_27 rfl rfl ?_
      refine z_iload_n (pc' := 29) X dX8_stamp_28 rfl rfl ?_
      refine z_V_fun2 (pc' := 32) X rfl Y_X8_canStamp q2250 dX8_stamp_29 rfl (by decide) (Nat.le_refl _) (Nat.le_refl _) (Nat.le_of_ble_eq_true rfl) (c_X8_canStamp _ _ _ _ _ _ (by first | assumption | omega) (by first | assumption | omega)) (fun r29 hr29 hp29 => ?_)
      refine z_if_eq (tgt := 39) (pc' := 35) X (by first | assumption | omega) dX8_stamp_32 rfl (by decide) (fun c32 => ?_) (fun c32 => ?_)
      · refine z_iconst (pc' := 40) X dX8_stamp_39 rfl ?_
        refine z_mput (pc' := 43) X 10 3 rfl (by decide) q2073 rfl rfl rfl (by first | assumption | omega) dX8_stamp_40 rfl (fun hR40 => ?_)
        refine z_aload_n (pc' := 44) X dX8_stamp_43 rfl rfl ?_
        have hv44 := hR40 0 3
        refine z_mget (pc' := 47) X 10 rfl (by decide) q2073 rfl dX8_stamp_44 rfl ?_
        rw [mset_s]
        rw [mset_s] at hv44
        refine z_if_le (tgt := 52) (pc' := 50) X (by first | assumption | omega) dX8_stamp_47 rfl (by decide) (fun c47 => ?_) (fun c47 => ?_)
        · exact absurd c47 (by decide)
        · refine z_iconst (pc' := 51) X dX8_stamp_50 rfl ?_
          refine z_ireturn X dX8_stamp_51 (Nat.le_refl _) (Nat.le_refl _) (fun _ hh => ⟨_, hh, _, rfl, ?_, ?_⟩)
          · first | assumption | omega
          · refine ⟨?_, Or.inl ⟨?_, hA.num (by decide)⟩⟩
            · rw [mset_s]; unfold gStp; (repeat' split) <;> omega
            · unfold gStp; (repeat' split) <;> omega
      · refine z_iconst (pc' := 36) X dX8_stamp_35 rfl ?_
        refine z_goto (tgt := 40) X dX8_stamp_36 (by decide) ?_
        refine z_mput (pc' := 43) X 10 3 rfl (by decide) q2073 rfl rfl rfl (by first | assumption | omega) dX8_stamp_40 rfl (fun hR40 => ?_)
        refine z_aload_n (pc' := 44) X dX8_stamp_43 rfl rfl ?_
        have hv44 := hR40 0 3
        refine z_mget (pc' := 47) X 10 rfl (by decide) q2073 rfl dX8_stamp_44 rfl ?_
        rw [mset_s]
        rw [mset_s] at hv44
        refine z_if_le (tgt := 52) (pc' := 50) X (by first | assumption | omega) dX8_stamp_47 rfl (by decide) (fun c47 => ?_) (fun c47 => ?_)
        · refine z_aload_n (pc' := 53) X dX8_stamp_52 rfl rfl ?_
          refine z_V_void0 (pc' := 56) X rfl Y_X8_saves q2151 dX8_stamp_53 rfl (by decide) (Nat.le_refl _) (Nat.le_refl _) (Nat.le_of_ble_eq_true rfl) (c_X8_saves _ _ _ _ (by rw [mset_k (by decide)]; exact hh0)) (fun M53 hp53 hR53 => ?_)
          have hg53 := mThr hp53
          have hA2 := (hA.num (k := 3) (by decide)).saved hp53
          have hS2 := hA2.1
          have e59 := mV_S hS2 (v := v) (w := 1) (by omega) (by omega)
          have e59b : (svA A A.1).1.1 (117 + 3 * v + 1) = A.1.1 (117 + 3 * v + 1) := rfl
          refine z_aload_n (pc' := 57) X dX8_stamp_56 rfl rfl ?_
          refine z_iload_n (pc' := 58) X dX8_stamp_57 rfl rfl ?_
          refine z_iload_n (pc' := 59) X dX8_stamp_58 rfl rfl ?_
          refine z_V_int2 (pc' := 62) X rfl Y_X8_stamps q2254 dX8_stamp_59 rfl (by decide) (Nat.le_refl _) (Nat.le_refl _) (Nat.le_of_ble_eq_true rfl) (c_X8_stamps _ _ _ _ _ _ (by first | assumption | omega) (by first | assumption | omega) (by first | assumption | omega)) (fun r59 M59 hr59 hp59 hR59 => ?_)
          refine z_ireturn X dX8_stamp_62 (Nat.le_refl _) (Nat.le_refl _) (fun _ hh => ⟨_, hh, _, rfl, ?_, ?_⟩)
          · first | assumption | omega
          · have hg0 : gStp A.1 v t = 0 := by unfold gStp; (repeat' split) <;> omega
            rw [hg0]
            obtain ⟨f1, f2⟩ := hp59
            rw [e59] at f1 f2
            exact ⟨by rw [f2, mset_r (by decide), hg53], Or.inr ⟨rfl, f1, by rw [f2]; exact hA2.row (hS2.set (show scI _ by unfold scI; omega)) (fun q hq => mset_r hq)⟩⟩
        · exact absurd c47 (by decide)
    · refine z_iconst (pc' := 23) X dX8_stamp_22 rfl ?_
      refine z_goto (tgt := 40) X dX8_stamp_23 (by decide) ?_
      refine z_mput (pc' := 43) X 10 3 rfl (by decide) q2073 rfl rfl rfl (by first | assumption | omega) dX8_stamp_40 rfl (fun hR40 => ?_)
      refine z_aload_n (pc' := 44) X dX8_stamp_43 rfl rfl ?_
      have hv44 := hR40 0 3
      refine z_mget (pc' := 47) X 10 rfl (by decide) q2073 rfl dX8_stamp_44 rfl ?_
      rw [mset_s]
      rw [mset_s] at hv44
      refine z_if_le (tgt := 52) (pc' := 50) X (by first | assumption | omega) dX8_stamp_47 rfl (by decide) (fun c47 => ?_) (fun c47 => ?_)
      · exact absurd c47 (by decide)
      · refine z_iconst (pc' := 51) X dX8_stamp_50 rfl ?_
        refine z_ireturn X dX8_stamp_51 (Nat.le_refl _) (Nat.le_refl _) (fun _ hh => ⟨_, hh, _, rfl, ?_, ?_⟩)
        · first | assumption | omega
        · refine ⟨?_, Or.inl ⟨?_, hA.num (by decide)⟩⟩
          · rw [mset_s]; unfold gStp; (repeat' split) <;> omega
          · unfold gStp; (repeat' split) <;> omega
  · refine z_iconst (pc' := 9) X dX8_stamp_8 rfl ?_
    refine z_goto (tgt := 40) X dX8_stamp_9 (by decide) ?_
    refine z_mput (pc' := 43) X 10 3 rfl (by decide) q2073 rfl rfl rfl (by first | assumption | omega) dX8_stamp_40 rfl (fun hR40 => ?_)
    refine z_aload_n (pc' := 44) X dX8_stamp_43 rfl rfl ?_
    have hv44 := hR40 0 3
    refine z_mget (pc' := 47) X 10 rfl (by decide) q2073 rfl dX8_stamp_44 rfl ?_
    rw [mset_s]
    rw [mset_s] at hv44
    refine z_if_le (tgt := 52) (pc' := 50) X (by first | assumption | omega) dX8_stamp_47 rfl (by decide) (fun c47 => ?_) (fun c47 => ?_)
    · exact absurd c47 (by decide)
    · refine z_iconst (pc' := 51) X dX8_stamp_50 rfl ?_
      refine z_ireturn X dX8_stamp_51 (Nat.le_refl _) (Nat.le_refl _) (fun _ hh => ⟨_, hh, _, rfl, ?_, ?_⟩)
      · first | assumption | omega
      · refine ⟨?_, Or.inl ⟨?_, hA.num (by decide)⟩⟩
        · rw [mset_s]; unfold gStp; (repeat' split) <;> omega
        · unfold gStp; (repeat' split) <;> omega
theorem Y_X8_drain : zYV yX8_drain cX8_drain 3 (some .int) 1 := ⟨⟨q2259, q2260, q132, q2261⟩, by decide +kernel, by decide⟩
set_option maxRecDepth 100000 in
theorem c_X8_drain (l : Launch) (g : zG) (ma : Nat → Nat) (M : MM) (v : Int) (A : Ab) (P Q : Int) (hv : rng v) (hA : mRep M A) (hk : okA P Q A) (hP : P ≤ 900000) (hQ : Q ≤ 9000000) : mInt l yX8_drain cX8_drain 3 (some .int) 12 [vR (ma 0), vI v] g ma M (fun r M' => outP (gDra A.1 v) A (A.1.1 (117 + 3 * v)) (svA A (draS v A.1)) r M') := by
  refine mInt.mk (L0 := [some (vR (ma 0)), some (vI v), none]) (by decide) rfl (Nat.le_of_ble_eq_true rfl) rfl (fun C h hg hl hR X => ?_)
  subst hg hl
  obtain ⟨hS, hN, hH, hT⟩ := id hA
  obtain ⟨hkS, -, -, -⟩ := id hk
  obtain ⟨⟨kc1, -, kc3, kc4, kc5⟩, kb, kp, kq⟩ := id hkS
  have hI := hk.I hA hP hQ
  have hn := mI_n hI
  have hh0 : 0 ≤ M 0 0 ∧ M 0 0 ≤ 5 := ⟨by rw [hH.1]; omega, by rw [hH.1]; have := hH.2.1; omega⟩
  have s0 := sc_at hA (j := 0) (by unfold scI; omega)
  have s1 := sc_at hA (j := 1) (by unfold scI; omega)
  refine z_aload_n (pc' := 1) X dX8_drain_0 rfl rfl ?_
  refine z_iload_n (pc' := 2) X dX8_drain_1 rfl rfl ?_
  refine z_S_fun1 (pc' := 5) X Y_X8_isVat q2210 dX8_drain_2 rfl (by decide) (Nat.le_refl _) (Nat.le_refl _) (Nat.le_of_ble_eq_true rfl) (fun h _ => c_X8_isVat _ _ _ _ (by first | assumption | omega)) (fun r2 hr2 hp2 => ?_)
  refine z_if_ne (tgt := 12) (pc' := 8) X (by first | assumption | omega) dX8_drain_5 rfl (by decide) (fun c5 => ?_) (fun c5 => ?_)
  · refine z_aload_n (pc' := 13) X dX8_drain_12 rfl rfl ?_
    refine z_iload_n (pc' := 14) X dX8_drain_13 rfl rfl ?_
    refine z_V_fun1 (pc' := 17) X rfl Y_X8_units q2220 dX8_drain_14 rfl (by decide) (Nat.le_refl _) (Nat.le_refl _) (Nat.le_of_ble_eq_true rfl) (c_X8_units _ _ _ _ _ (by first | assumption | omega)) (fun r14 hr14 hp14 => ?_)
    subst hp14
    have e14 := mU_S hS (v := v) (by omega)
    refine z_if_ne (tgt := 24) (pc' := 20) X (by first | assumption | omega) dX8_drain_17 rfl (by decide) (fun c17 => ?_) (fun c17 => ?_)
    · refine z_iconst (pc' := 25) X dX8_drain_24 rfl ?_
      refine z_mput (pc' := 28) X 10 3 rfl (by decide) q2073 rfl rfl rfl (by first | assumption | omega) dX8_drain_25 rfl (fun hR25 => ?_)
      refine z_aload_n (pc' := 29) X dX8_drain_28 rfl rfl ?_
      have hv29 := hR25 0 3
      refine z_mget (pc' := 32) X 10 rfl (by decide) q2073 rfl dX8_drain_29 rfl ?_
      rw [mset_s]
      rw [mset_s] at hv29
      refine z_if_le (tgt := 37) (pc' := 35) X (by first | assumption | omega) dX8_drain_32 rfl (by decide) (fun c32 => ?_) (fun c32 => ?_)
      · refine z_aload_n (pc' := 38) X dX8_drain_37 rfl rfl ?_
        refine z_V_void0 (pc' := 41) X rfl Y_X8_saves q2151 dX8_drain_38 rfl (by decide) (Nat.le_refl _) (Nat.le_refl _) (Nat.le_of_ble_eq_true rfl) (c_X8_saves _ _ _ _ (by rw [mset_k (by decide)]; exact hh0)) (fun M38 hp38 hR38 => ?_)
        have hg38 := mThr hp38
        have hA2 := (hA.num (k := 3) (by decide)).saved hp38
        have hS2 := hA2.1
        refine z_aload_n (pc' := 42) X dX8_drain_41 rfl rfl ?_
        refine z_iload_n (pc' := 43) X dX8_drain_42 rfl rfl ?_
        refine z_V_fun1 (pc' := 46) X rfl Y_X8_units q2220 dX8_drain_43 rfl (by decide) (Nat.le_refl _) (Nat.le_refl _) (Nat.le_of_ble_eq_true rfl) (c_X8_units _ _ _ _ _ (by first | assumption | omega)) (fun r43 hr43 hp43 => ?_)
        subst hp43
        refine z_istore_n (pc' := 47) X dX8_drain_46 rfl (by decide) rfl ?_
        dsimp only [List.set]
        refine z_aload_n (pc' := 48) X dX8_drain_47 rfl rfl ?_
        refine z_iload_n (pc' := 49) X dX8_drain_48 rfl rfl ?_
        refine z_V_void1 (pc' := 52) X rfl Y_X8_isEmptied q2262 dX8_drain_49 rfl (by decide) (Nat.le_refl _) (Nat.le_refl _) (Nat.le_of_ble_eq_true rfl) (c_X8_isEmptied _ _ _ _ _ (by first | assumption | omega)) (fun M49 hp49 hR49 => ?_)
        refine z_iload_n (pc' := 53) X dX8_drain_52 rfl rfl ?_
        refine z_ireturn X dX8_drain_53 (Nat.le_refl _) (Nat.le_refl _) (fun _ hh => ⟨_, hh, _, rfl, ?_, ?_⟩)
        · first | assumption | omega
        · have hg0 : gDra A.1 v = 0 := by unfold gDra; (repeat' split) <;> omega
          rw [hg0]
          exact ⟨by rw [hp49]; show mfill M38 1 _ 3 0 0 3 = 0; rw [show mfill M38 1 (117 + 3 * v) 3 0 0 3 = M38 0 3 from if_neg (fun x => absurd x.1 (by decide)), hg38], Or.inr ⟨rfl, mU_S hS2 (by omega), by rw [hp49]; exact hA2.row (hS2.fill (by omega)) (fun q hq => funext fun j => if_neg (fun x => hq x.1))⟩⟩
      · exact absurd c32 (by decide)
    · refine z_iconst (pc' := 21) X dX8_drain_20 rfl ?_
      refine z_goto (tgt := 25) X dX8_drain_21 (by decide) ?_
      refine z_mput (pc' := 28) X 10 3 rfl (by decide) q2073 rfl rfl rfl (by first | assumption | omega) dX8_drain_25 rfl (fun hR25 => ?_)
      refine z_aload_n (pc' := 29) X dX8_drain_28 rfl rfl ?_
      have hv29 := hR25 0 3
      refine z_mget (pc' := 32) X 10 rfl (by decide) q2073 rfl dX8_drain_29 rfl ?_
      rw [mset_s]
      rw [mset_s] at hv29
      refine z_if_le (tgt := 37) (pc' := 35) X (by first | assumption | omega) dX8_drain_32 rfl (by decide) (fun c32 => ?_) (fun c32 => ?_)
      · exact absurd c32 (by decide)
      · refine z_iconst (pc' := 36) X dX8_drain_35 rfl ?_
        refine z_ireturn X dX8_drain_36 (Nat.le_refl _) (Nat.le_refl _) (fun _ hh => ⟨_, hh, _, rfl, ?_, ?_⟩)
        · first | assumption | omega
        · refine ⟨?_, Or.inl ⟨?_, hA.num (by decide)⟩⟩
          · rw [mset_s]; unfold gDra; (repeat' split) <;> omega
          · unfold gDra; (repeat' split) <;> omega
  · refine z_iconst (pc' := 9) X dX8_drain_8 rfl ?_
    refine z_goto (tgt := 25) X dX8_drain_9 (by decide) ?_
    refine z_mput (pc' := 28) X 10 3 rfl (by decide) q2073 rfl rfl rfl (by first | assumption | omega) dX8_drain_25 rfl (fun hR25 => ?_)
    refine z_aload_n (pc' := 29) X dX8_drain_28 rfl rfl ?_
    have hv29 := hR25 0 3
    refine z_mget (pc' := 32) X 10 rfl (by decide) q2073 rfl dX8_drain_29 rfl ?_
    rw [mset_s]
    rw [mset_s] at hv29
    refine z_if_le (tgt := 37) (pc' := 35) X (by first | assumption | omega) dX8_drain_32 rfl (by decide) (fun c32 => ?_) (fun c32 => ?_)
    · exact absurd c32 (by decide)
    · refine z_iconst (pc' := 36) X dX8_drain_35 rfl ?_
      refine z_ireturn X dX8_drain_36 (Nat.le_refl _) (Nat.le_refl _) (fun _ hh => ⟨_, hh, _, rfl, ?_, ?_⟩)
      · first | assumption | omega
      · refine ⟨?_, Or.inl ⟨?_, hA.num (by decide)⟩⟩
        · rw [mset_s]; unfold gDra; (repeat' split) <;> omega
        · unfold gDra; (repeat' split) <;> omega
theorem Y_X8_mend : zYV yX8_mend cX8_mend 3 (some .int) 1 := ⟨⟨q2278, q2279, q132, q2280⟩, by decide +kernel, by decide⟩
set_option maxRecDepth 100000 in
theorem c_X8_mend (l : Launch) (g : zG) (ma : Nat → Nat) (M : MM) (m : Int) (A : Ab) (P Q : Int) (hm : rng m) (hA : mRep M A) (hk : okA P Q A) (hP : P ≤ 900000) (hQ : Q ≤ 9000000) : mInt l yX8_mend cX8_mend 3 (some .int) 12 [vR (ma 0), vI m] g ma M (fun r M' => outP (gMen A.1 m) A (A.1.1 (126 + 3 * m + 1)) (svA A (menS m A.1)) r M') := by
  refine mInt.mk (L0 := [some (vR (ma 0)), some (vI m), none]) (by decide) rfl (Nat.le_of_ble_eq_true rfl) rfl (fun C h hg hl hR X => ?_)
  subst hg hl
  obtain ⟨hS, hN, hH, hT⟩ := id hA
  obtain ⟨hkS, -, -, -⟩ := id hk
  obtain ⟨⟨kc1, -, kc3, kc4, kc5⟩, kb, kp, kq⟩ := id hkS
  have hI := hk.I hA hP hQ
  have hn := mI_n hI
  have hh0 : 0 ≤ M 0 0 ∧ M 0 0 ≤ 5 := ⟨by rw [hH.1]; omega, by rw [hH.1]; have := hH.2.1; omega⟩
  have s0 := sc_at hA (j := 0) (by unfold scI; omega)
  have s1 := sc_at hA (j := 1) (by unfold scI; omega)
  refine z_aload_n (pc' := 1) X dX8_mend_0 rfl rfl ?_
  refine z_iload_n (pc' := 2) X dX8_mend_1 rfl rfl ?_
  refine z_S_fun1 (pc' := 5) X Y_X8_isMould q2270 dX8_mend_2 rfl (by decide) (Nat.le_refl _) (Nat.le_refl _) (Nat.le_of_ble_eq_true rfl) (fun h _ => c_X8_isMould _ _ _ _ (by first | assumption | omega)) (fun r2 hr2 hp2 => ?_)
  refine z_if_ne (tgt := 12) (pc' := 8) X (by first | assumption | omega) dX8_mend_5 rfl (by decide) (fun c5 => ?_) (fun c5 => ?_)
  · refine z_aload_n (pc' := 13) X dX8_mend_12 rfl rfl ?_
    refine z_mget (pc' := 16) X 0 rfl (by decide) q2063 rfl dX8_mend_13 rfl ?_
    refine z_iconst (pc' := 17) X dX8_mend_16 rfl ?_
    refine z_mld (pc' := 18) X (r := 1) (by decide) (show 0 ≤ _ ∧ _ < (321 : Int) by omega) dX8_mend_17 rfl (fun hv17 => ?_)
    refine z_bipush (pc' := 20) X dX8_mend_18 rfl (by decide) ?_
    refine z_icmp_ge (tgt := 27) (pc' := 23) X (by first | assumption | omega) (by first | assumption | omega) dX8_mend_20 rfl (by decide) (fun c20 => ?_) (fun c20 => ?_)
    · refine z_iconst (pc' := 28) X dX8_mend_27 rfl ?_
      refine z_mput (pc' := 31) X 10 3 rfl (by decide) q2073 rfl rfl rfl (by first | assumption | omega) dX8_mend_28 rfl (fun hR28 => ?_)
      refine z_aload_n (pc' := 32) X dX8_mend_31 rfl rfl ?_
      have hv32 := hR28 0 3
      refine z_mget (pc' := 35) X 10 rfl (by decide) q2073 rfl dX8_mend_32 rfl ?_
      rw [mset_s]
      rw [mset_s] at hv32
      refine z_if_le (tgt := 40) (pc' := 38) X (by first | assumption | omega) dX8_mend_35 rfl (by decide) (fun c35 => ?_) (fun c35 => ?_)
      · refine z_aload_n (pc' := 41) X dX8_mend_40 rfl rfl ?_
        refine z_V_void0 (pc' := 44) X rfl Y_X8_saves q2151 dX8_mend_41 rfl (by decide) (Nat.le_refl _) (Nat.le_refl _) (Nat.le_of_ble_eq_true rfl) (c_X8_saves _ _ _ _ (by rw [mset_k (by decide)]; exact hh0)) (fun M41 hp41 hR41 => ?_)
        have hg41 := mThr hp41
        have hA2 := (hA.num (k := 3) (by decide)).saved hp41
        have hS2 := hA2.1
        refine z_aload_n (pc' := 45) X dX8_mend_44 rfl rfl ?_
        refine z_iload_n (pc' := 46) X dX8_mend_45 rfl rfl ?_
        refine z_V_fun1 (pc' := 49) X rfl Y_X8_wear q2281 dX8_mend_46 rfl (by decide) (Nat.le_refl _) (Nat.le_refl _) (Nat.le_of_ble_eq_true rfl) (c_X8_wear _ _ _ _ _ (by first | assumption | omega)) (fun r46 hr46 hp46 => ?_)
        subst hp46
        refine z_istore_n (pc' := 50) X dX8_mend_49 rfl (by decide) rfl ?_
        dsimp only [List.set]
        refine z_aload_n (pc' := 51) X dX8_mend_50 rfl rfl ?_
        refine z_mget (pc' := 54) X 0 rfl (by decide) q2063 rfl dX8_mend_51 rfl ?_
        refine z_iconst (pc' := 55) X dX8_mend_54 rfl ?_
        refine z_dup2 (pc' := 56) X rfl rfl dX8_mend_55 rfl ?_
        refine z_mld (pc' := 57) X (r := 1) (by decide) (show 0 ≤ _ ∧ _ < (321 : Int) by omega) dX8_mend_56 rfl (fun hv56 => ?_)
        have e56 : M41 1 1 = A.1.1 1 := hS2.1 _ (by unfold scI; omega)
        rw [e56]
        rw [e56] at hv56
        refine z_bipush (pc' := 59) X dX8_mend_57 rfl (by decide) ?_
        refine z_isub (pc' := 60) X dX8_mend_59 rfl ?_
        refine z_mst (pc' := 61) X (r := 1) (by decide) (show 0 ≤ _ ∧ _ < (321 : Int) by omega) (by first | assumption | omega) dX8_mend_60 rfl (fun hR60 => ?_)
        refine z_aload_n (pc' := 62) X dX8_mend_61 rfl rfl ?_
        refine z_mget (pc' := 65) X 0 rfl (by decide) q2063 rfl dX8_mend_62 rfl ?_
        refine z_bipush (pc' := 67) X dX8_mend_65 rfl (by decide) ?_
        refine z_iconst (pc' := 68) X dX8_mend_67 rfl ?_
        refine z_iload_n (pc' := 69) X dX8_mend_68 rfl rfl ?_
        refine z_imul (pc' := 70) X dX8_mend_69 rfl ?_
        refine z_iadd (pc' := 71) X dX8_mend_70 rfl ?_
        refine z_iconst (pc' := 72) X dX8_mend_71 rfl ?_
        refine z_iadd (pc' := 73) X dX8_mend_72 rfl ?_
        refine z_iconst (pc' := 74) X dX8_mend_73 rfl ?_
        refine z_mst (pc' := 75) X (r := 1) (by decide) (show 0 ≤ _ ∧ _ < (321 : Int) by omega) (by first | assumption | omega) dX8_mend_74 rfl (fun hR74 => ?_)
        refine z_iload_n (pc' := 76) X dX8_mend_75 rfl rfl ?_
        refine z_ireturn X dX8_mend_76 (Nat.le_refl _) (Nat.le_refl _) (fun _ hh => ⟨_, hh, _, rfl, ?_, ?_⟩)
        · first | assumption | omega
        · have hg0 : gMen A.1 m = 0 := by unfold gMen; (repeat' split) <;> omega
          rw [hg0]
          have hX := (hS2.set (z := A.1.1 1 - 30) (show scI 1 by unfold scI; omega)).set (z := 0) (show scI (126 + 3 * m + 1) by unfold scI; omega)
          exact ⟨by rw [mset_r (by decide), mset_r (by decide), hg41], Or.inr ⟨rfl, mMo_S hS2 (by omega) (by omega), hA2.row hX (fun q hq => by rw [mset_r hq, mset_r hq])⟩⟩
      · exact absurd c35 (by decide)
    · refine z_iconst (pc' := 24) X dX8_mend_23 rfl ?_
      refine z_goto (tgt := 28) X dX8_mend_24 (by decide) ?_
      refine z_mput (pc' := 31) X 10 3 rfl (by decide) q2073 rfl rfl rfl (by first | assumption | omega) dX8_mend_28 rfl (fun hR28 => ?_)
      refine z_aload_n (pc' := 32) X dX8_mend_31 rfl rfl ?_
      have hv32 := hR28 0 3
      refine z_mget (pc' := 35) X 10 rfl (by decide) q2073 rfl dX8_mend_32 rfl ?_
      rw [mset_s]
      rw [mset_s] at hv32
      refine z_if_le (tgt := 40) (pc' := 38) X (by first | assumption | omega) dX8_mend_35 rfl (by decide) (fun c35 => ?_) (fun c35 => ?_)
      · exact absurd c35 (by decide)
      · refine z_iconst (pc' := 39) X dX8_mend_38 rfl ?_
        refine z_ireturn X dX8_mend_39 (Nat.le_refl _) (Nat.le_refl _) (fun _ hh => ⟨_, hh, _, rfl, ?_, ?_⟩)
        · first | assumption | omega
        · refine ⟨?_, Or.inl ⟨?_, hA.num (by decide)⟩⟩
          · rw [mset_s]; unfold gMen; (repeat' split) <;> omega
          · unfold gMen; (repeat' split) <;> omega
  · refine z_iconst (pc' := 9) X dX8_mend_8 rfl ?_
    refine z_goto (tgt := 28) X dX8_mend_9 (by decide) ?_
    refine z_mput (pc' := 31) X 10 3 rfl (by decide) q2073 rfl rfl rfl (by first | assumption | omega) dX8_mend_28 rfl (fun hR28 => ?_)
    refine z_aload_n (pc' := 32) X dX8_mend_31 rfl rfl ?_
    have hv32 := hR28 0 3
    refine z_mget (pc' := 35) X 10 rfl (by decide) q2073 rfl dX8_mend_32 rfl ?_
    rw [mset_s]
    rw [mset_s] at hv32
    refine z_if_le (tgt := 40) (pc' := 38) X (by first | assumption | omega) dX8_mend_35 rfl (by decide) (fun c35 => ?_) (fun c35 => ?_)
    · exact absurd c35 (by decide)
    · refine z_iconst (pc' := 39) X dX8_mend_38 rfl ?_
      refine z_ireturn X dX8_mend_39 (Nat.le_refl _) (Nat.le_refl _) (fun _ hh => ⟨_, hh, _, rfl, ?_, ?_⟩)
      · first | assumption | omega
      · refine ⟨?_, Or.inl ⟨?_, hA.num (by decide)⟩⟩
        · rw [mset_s]; unfold gMen; (repeat' split) <;> omega
        · unfold gMen; (repeat' split) <;> omega
theorem Y_X8_make : zYV yX8_make cX8_make 4 (some .int) 3 := ⟨⟨q2286, q2287, q132, q2288⟩, by decide +kernel, by decide⟩
set_option maxRecDepth 100000 in
theorem c_X8_make (l : Launch) (g : zG) (ma : Nat → Nat) (M : MM) (v m n : Int) (A : Ab) (P Q : Int) (hv : rng v) (hm : rng m) (hn : rng n) (hA : mRep M A) (hk : okA P Q A) (hP : P ≤ 900000) (hQ : Q ≤ 9000000) : mInt l yX8_make cX8_make 4 (some .int) 12 [vR (ma 0), vI v, vI m, vI n] g ma M (fun r M' => outP (gMak A.1 v m n) A (mkSomeN A.1.1 v m n) (svA A (makeS v m n A.1)) r M') := by
  refine mInt.mk (L0 := [some (vR (ma 0)), some (vI v), some (vI m), some (vI n)]) (by decide) rfl (Nat.le_of_ble_eq_true rfl) rfl (fun C h hg hl hR X => ?_)
  subst hg hl
  obtain ⟨hS, hN, hH, hT⟩ := id hA
  obtain ⟨hkS, -, -, -⟩ := id hk
  obtain ⟨⟨kc1, -, kc3, kc4, kc5⟩, kb, kp, kq⟩ := id hkS
  have hI := hk.I hA hP hQ
  have hn := mI_n hI
  have hh0 : 0 ≤ M 0 0 ∧ M 0 0 ≤ 5 := ⟨by rw [hH.1]; omega, by rw [hH.1]; have := hH.2.1; omega⟩
  have s0 := sc_at hA (j := 0) (by unfold scI; omega)
  have s1 := sc_at hA (j := 1) (by unfold scI; omega)
  refine z_aload_n (pc' := 1) X dX8_make_0 rfl rfl ?_
  refine z_iload_n (pc' := 2) X dX8_make_1 rfl rfl ?_
  refine z_S_fun1 (pc' := 5) X Y_X8_isVat q2210 dX8_make_2 rfl (by decide) (Nat.le_refl _) (Nat.le_refl _) (Nat.le_of_ble_eq_true rfl) (fun h _ => c_X8_isVat _ _ _ _ (by first | assumption | omega)) (fun r2 hr2 hp2 => ?_)
  refine z_if_eq (tgt := 15) (pc' := 8) X (by first | assumption | omega) dX8_make_5 rfl (by decide) (fun c5 => ?_) (fun c5 => ?_)
  · refine z_iconst (pc' := 16) X dX8_make_15 rfl ?_
    refine z_goto (tgt := 45) X dX8_make_16 (by decide) ?_
    refine z_mput (pc' := 48) X 10 3 rfl (by decide) q2073 rfl rfl rfl (by first | assumption | omega) dX8_make_45 rfl (fun hR45 => ?_)
    refine z_aload_n (pc' := 49) X dX8_make_48 rfl rfl ?_
    have hv49 := hR45 0 3
    refine z_mget (pc' := 52) X 10 rfl (by decide) q2073 rfl dX8_make_49 rfl ?_
    rw [mset_s]
    rw [mset_s] at hv49
    refine z_if_le (tgt := 57) (pc' := 55) X (by first | assumption | omega) dX8_make_52 rfl (by decide) (fun c52 => ?_) (fun c52 => ?_)
    · exact absurd c52 (by decide)
    · refine z_iconst (pc' := 56) X dX8_make_55 rfl ?_
      refine z_ireturn X dX8_make_56 (Nat.le_refl _) (Nat.le_refl _) (fun _ hh => ⟨_, hh, _, rfl, ?_, ?_⟩)
      · first | assumption | omega
      · refine ⟨?_, Or.inl ⟨?_, hA.num (by decide)⟩⟩
        · rw [mset_s]; unfold gMak; (repeat' split) <;> omega
        · unfold gMak; (repeat' split) <;> omega
  · refine z_iload_n (pc' := 9) X dX8_make_8 rfl rfl ?_
    refine z_S_fun1 (pc' := 12) X Y_X8_isMould q2270 dX8_make_9 rfl (by decide) (Nat.le_refl _) (Nat.le_refl _) (Nat.le_of_ble_eq_true rfl) (fun h _ => c_X8_isMould _ _ _ _ (by first | assumption | omega)) (fun r9 hr9 hp9 => ?_)
    refine z_if_ne (tgt := 19) (pc' := 15) X (by first | assumption | omega) dX8_make_12 rfl (by decide) (fun c12 => ?_) (fun c12 => ?_)
    · refine z_iload_n (pc' := 20) X dX8_make_19 rfl rfl ?_
      refine z_S_fun1 (pc' := 23) X Y_X8_isSheets q2289 dX8_make_20 rfl (by decide) (Nat.le_refl _) (Nat.le_refl _) (Nat.le_of_ble_eq_true rfl) (fun h _ => c_X8_isSheets _ _ _ _ (by first | assumption | omega)) (fun r20 hr20 hp20 => ?_)
      refine z_if_ne (tgt := 30) (pc' := 26) X (by first | assumption | omega) dX8_make_23 rfl (by decide) (fun c23 => ?_) (fun c23 => ?_)
      · refine z_aload_n (pc' := 31) X dX8_make_30 rfl rfl ?_
        refine z_iload_n (pc' := 32) X dX8_make_31 rfl rfl ?_
        refine z_iload_n (pc' := 33) X dX8_make_32 rfl rfl ?_
        refine z_iload_n (pc' := 34) X dX8_make_33 rfl rfl ?_
        refine z_V_fun3 (pc' := 37) X rfl Y_X8_whyNoSheets q2292 dX8_make_34 rfl (by decide) (Nat.le_refl _) (Nat.le_refl _) (Nat.le_of_ble_eq_true rfl) (c_X8_whyNoSheets _ _ _ _ _ _ _ (by first | assumption | omega) (by first | assumption | omega) (by first | assumption | omega) (by first | assumption | omega)) (fun r34 hr34 hp34 => ?_)
        subst hp34
        have e34 := mWhyS_S hS (v := v) (m := m) (n := n) (by omega) (by omega)
        refine z_if_ne (tgt := 44) (pc' := 40) X (by first | assumption | omega) dX8_make_37 rfl (by decide) (fun c37 => ?_) (fun c37 => ?_)
        · refine z_iconst (pc' := 45) X dX8_make_44 rfl ?_
          refine z_mput (pc' := 48) X 10 3 rfl (by decide) q2073 rfl rfl rfl (by first | assumption | omega) dX8_make_45 rfl (fun hR45 => ?_)
          refine z_aload_n (pc' := 49) X dX8_make_48 rfl rfl ?_
          have hv49 := hR45 0 3
          refine z_mget (pc' := 52) X 10 rfl (by decide) q2073 rfl dX8_make_49 rfl ?_
          rw [mset_s]
          rw [mset_s] at hv49
          refine z_if_le (tgt := 57) (pc' := 55) X (by first | assumption | omega) dX8_make_52 rfl (by decide) (fun c52 => ?_) (fun c52 => ?_)
          · exact absurd c52 (by decide)
          · refine z_iconst (pc' := 56) X dX8_make_55 rfl ?_
            refine z_ireturn X dX8_make_56 (Nat.le_refl _) (Nat.le_refl _) (fun _ hh => ⟨_, hh, _, rfl, ?_, ?_⟩)
            · first | assumption | omega
            · refine ⟨?_, Or.inl ⟨?_, hA.num (by decide)⟩⟩
              · rw [mset_s]; unfold gMak; (repeat' split) <;> omega
              · unfold gMak; (repeat' split) <;> omega
        · refine z_iconst (pc' := 41) X dX8_make_40 rfl ?_
          refine z_goto (tgt := 45) X dX8_make_41 (by decide) ?_
          refine z_mput (pc' := 48) X 10 3 rfl (by decide) q2073 rfl rfl rfl (by first | assumption | omega) dX8_make_45 rfl (fun hR45 => ?_)
          refine z_aload_n (pc' := 49) X dX8_make_48 rfl rfl ?_
          have hv49 := hR45 0 3
          refine z_mget (pc' := 52) X 10 rfl (by decide) q2073 rfl dX8_make_49 rfl ?_
          rw [mset_s]
          rw [mset_s] at hv49
          refine z_if_le (tgt := 57) (pc' := 55) X (by first | assumption | omega) dX8_make_52 rfl (by decide) (fun c52 => ?_) (fun c52 => ?_)
          · refine z_aload_n (pc' := 58) X dX8_make_57 rfl rfl ?_
            refine z_V_void0 (pc' := 61) X rfl Y_X8_saves q2151 dX8_make_58 rfl (by decide) (Nat.le_refl _) (Nat.le_refl _) (Nat.le_of_ble_eq_true rfl) (c_X8_saves _ _ _ _ (by rw [mset_k (by decide)]; exact hh0)) (fun M58 hp58 hR58 => ?_)
            have hg58 := mThr hp58
            have hA2 := (hA.num (k := 3) (by decide)).saved hp58
            have hS2 := hA2.1
            have hk50 : okA P Q (svA A A.1) := svA_ok hk hkS
            have e58 := mWhyS_S hS2 (v := v) (m := m) (n := n) (by omega) (by omega)
            have e58b : whySS (svA A A.1).1 v m n = whySS A.1 v m n := rfl
            have e58c := mWhyS0 (M := M58) (v := v) (m := m) (n := n) (by omega)
            have e58d := hS2.2.2.1.1
            have e58e := hS2.2.2.1.2.1
            refine z_aload_n (pc' := 62) X dX8_make_61 rfl rfl ?_
            refine z_iload_n (pc' := 63) X dX8_make_62 rfl rfl ?_
            refine z_iload_n (pc' := 64) X dX8_make_63 rfl rfl ?_
            refine z_iload_n (pc' := 65) X dX8_make_64 rfl rfl ?_
            refine z_V_int3 (pc' := 68) X rfl Y_X8_makes q2303 dX8_make_65 rfl (by decide) (Nat.le_refl _) (Nat.le_refl _) (Nat.le_of_ble_eq_true rfl) (c_X8_makes _ _ _ _ v m n (svA A A.1).1 (by omega) (by omega) (by omega) (okA.I (P := P) (Q := Q) hk50 hA2 hP hQ) hS2 (by omega) e58c.2.1 (by omega) (by omega)) (fun r65 M65 hr65 hp65 hR65 => ?_)
            refine z_ireturn X dX8_make_68 (Nat.le_refl _) (Nat.le_refl _) (fun _ hh => ⟨_, hh, _, rfl, ?_, ?_⟩)
            · first | assumption | omega
            · have hg0 : gMak A.1 v m n = 0 := by unfold gMak; (repeat' split) <;> omega
              rw [hg0]
              obtain ⟨f1, f2, f3⟩ := hp65
              exact ⟨by rw [f3 0 (by decide), hg58], Or.inr ⟨rfl, by rw [f1]; exact (mk_eq hS2 (by omega) (by omega)).2.2.1.symm, hA2.row f2 f3⟩⟩
          · exact absurd c52 (by decide)
      · refine z_iconst (pc' := 27) X dX8_make_26 rfl ?_
        refine z_goto (tgt := 45) X dX8_make_27 (by decide) ?_
        refine z_mput (pc' := 48) X 10 3 rfl (by decide) q2073 rfl rfl rfl (by first | assumption | omega) dX8_make_45 rfl (fun hR45 => ?_)
        refine z_aload_n (pc' := 49) X dX8_make_48 rfl rfl ?_
        have hv49 := hR45 0 3
        refine z_mget (pc' := 52) X 10 rfl (by decide) q2073 rfl dX8_make_49 rfl ?_
        rw [mset_s]
        rw [mset_s] at hv49
        refine z_if_le (tgt := 57) (pc' := 55) X (by first | assumption | omega) dX8_make_52 rfl (by decide) (fun c52 => ?_) (fun c52 => ?_)
        · exact absurd c52 (by decide)
        · refine z_iconst (pc' := 56) X dX8_make_55 rfl ?_
          refine z_ireturn X dX8_make_56 (Nat.le_refl _) (Nat.le_refl _) (fun _ hh => ⟨_, hh, _, rfl, ?_, ?_⟩)
          · first | assumption | omega
          · refine ⟨?_, Or.inl ⟨?_, hA.num (by decide)⟩⟩
            · rw [mset_s]; unfold gMak; (repeat' split) <;> omega
            · unfold gMak; (repeat' split) <;> omega
    · refine z_iconst (pc' := 16) X dX8_make_15 rfl ?_
      refine z_goto (tgt := 45) X dX8_make_16 (by decide) ?_
      refine z_mput (pc' := 48) X 10 3 rfl (by decide) q2073 rfl rfl rfl (by first | assumption | omega) dX8_make_45 rfl (fun hR45 => ?_)
      refine z_aload_n (pc' := 49) X dX8_make_48 rfl rfl ?_
      have hv49 := hR45 0 3
      refine z_mget (pc' := 52) X 10 rfl (by decide) q2073 rfl dX8_make_49 rfl ?_
      rw [mset_s]
      rw [mset_s] at hv49
      refine z_if_le (tgt := 57) (pc' := 55) X (by first | assumption | omega) dX8_make_52 rfl (by decide) (fun c52 => ?_) (fun c52 => ?_)
      · exact absurd c52 (by decide)
      · refine z_iconst (pc' := 56) X dX8_make_55 rfl ?_
        refine z_ireturn X dX8_make_56 (Nat.le_refl _) (Nat.le_refl _) (fun _ hh => ⟨_, hh, _, rfl, ?_, ?_⟩)
        · first | assumption | omega
        · refine ⟨?_, Or.inl ⟨?_, hA.num (by decide)⟩⟩
          · rw [mset_s]; unfold gMak; (repeat' split) <;> omega
          · unfold gMak; (repeat' split) <;> omega
theorem Y_X8_pack : zYV yX8_pack cX8_pack 4 (some .int) 3 := ⟨⟨q2308, q2309, q132, q2310⟩, by decide +kernel, by decide⟩
set_option maxRecDepth 100000 in
theorem c_X8_pack (l : Launch) (g : zG) (ma : Nat → Nat) (M : MM) (a b c : Int) (A : Ab) (P Q : Int) (ha : rng a) (hb : rng b) (hc : rng c) (hA : mRep M A) (hk : okA P Q A) (hP : P ≤ 900000) (hQ : Q ≤ 9000000) : mInt l yX8_pack cX8_pack 4 (some .int) 12 [vR (ma 0), vI a, vI b, vI c] g ma M (fun r M' => outP (gPck A.1 a b c) A (A.1.2.2.2.length) (svA A (pckS a b c 20 A.1)) r M') := by
  refine mInt.mk (L0 := [some (vR (ma 0)), some (vI a), some (vI b), some (vI c)]) (by decide) rfl (Nat.le_of_ble_eq_true rfl) rfl (fun C h hg hl hR X => ?_)
  subst hg hl
  obtain ⟨hS, hN, hH, hT⟩ := id hA
  obtain ⟨hkS, -, -, -⟩ := id hk
  obtain ⟨⟨kc1, -, kc3, kc4, kc5⟩, kb, kp, kq⟩ := id hkS
  have hI := hk.I hA hP hQ
  have hn := mI_n hI
  have hh0 : 0 ≤ M 0 0 ∧ M 0 0 ≤ 5 := ⟨by rw [hH.1]; omega, by rw [hH.1]; have := hH.2.1; omega⟩
  have s0 := sc_at hA (j := 0) (by unfold scI; omega)
  have s1 := sc_at hA (j := 1) (by unfold scI; omega)
  refine z_aload_n (pc' := 1) X dX8_pack_0 rfl rfl ?_
  refine z_iload_n (pc' := 2) X dX8_pack_1 rfl rfl ?_
  refine z_iload_n (pc' := 3) X dX8_pack_2 rfl rfl ?_
  refine z_iload_n (pc' := 4) X dX8_pack_3 rfl rfl ?_
  refine z_S_fun3 (pc' := 7) X Y_X8_isPaper q2311 dX8_pack_4 rfl (by decide) (Nat.le_refl _) (Nat.le_refl _) (Nat.le_of_ble_eq_true rfl) (fun h _ => c_X8_isPaper _ _ _ _ _ _ (by first | assumption | omega) (by first | assumption | omega) (by first | assumption | omega)) (fun r4 hr4 hp4 => ?_)
  refine z_if_ne (tgt := 14) (pc' := 10) X (by first | assumption | omega) dX8_pack_7 rfl (by decide) (fun c7 => ?_) (fun c7 => ?_)
  · refine z_aload_n (pc' := 15) X dX8_pack_14 rfl rfl ?_
    refine z_iload_n (pc' := 16) X dX8_pack_15 rfl rfl ?_
    refine z_iload_n (pc' := 17) X dX8_pack_16 rfl rfl ?_
    refine z_iload_n (pc' := 18) X dX8_pack_17 rfl rfl ?_
    refine z_V_fun3 (pc' := 21) X rfl Y_X8_whyNoReam q2314 dX8_pack_18 rfl (by decide) (Nat.le_refl _) (Nat.le_refl _) (Nat.le_of_ble_eq_true rfl) (c_X8_whyNoReam _ _ _ _ _ _ _ (by first | assumption | omega) (by first | assumption | omega) (by first | assumption | omega) (by first | assumption | omega)) (fun r18 hr18 hp18 => ?_)
    subst hp18
    rw [mWhyQ_S hS]
    rw [mWhyQ_S hS] at hr18
    refine z_if_ne (tgt := 28) (pc' := 24) X (by first | assumption | omega) dX8_pack_21 rfl (by decide) (fun c21 => ?_) (fun c21 => ?_)
    · refine z_iconst (pc' := 29) X dX8_pack_28 rfl ?_
      refine z_mput (pc' := 32) X 10 3 rfl (by decide) q2073 rfl rfl rfl (by first | assumption | omega) dX8_pack_29 rfl (fun hR29 => ?_)
      refine z_aload_n (pc' := 33) X dX8_pack_32 rfl rfl ?_
      have hv33 := hR29 0 3
      refine z_mget (pc' := 36) X 10 rfl (by decide) q2073 rfl dX8_pack_33 rfl ?_
      rw [mset_s]
      rw [mset_s] at hv33
      refine z_if_le (tgt := 41) (pc' := 39) X (by first | assumption | omega) dX8_pack_36 rfl (by decide) (fun c36 => ?_) (fun c36 => ?_)
      · exact absurd c36 (by decide)
      · refine z_iconst (pc' := 40) X dX8_pack_39 rfl ?_
        refine z_ireturn X dX8_pack_40 (Nat.le_refl _) (Nat.le_refl _) (fun _ hh => ⟨_, hh, _, rfl, ?_, ?_⟩)
        · first | assumption | omega
        · refine ⟨?_, Or.inl ⟨?_, hA.num (by decide)⟩⟩
          · rw [mset_s]; unfold gPck; (repeat' split) <;> omega
          · unfold gPck; (repeat' split) <;> omega
    · refine z_iconst (pc' := 25) X dX8_pack_24 rfl ?_
      refine z_goto (tgt := 29) X dX8_pack_25 (by decide) ?_
      refine z_mput (pc' := 32) X 10 3 rfl (by decide) q2073 rfl rfl rfl (by first | assumption | omega) dX8_pack_29 rfl (fun hR29 => ?_)
      refine z_aload_n (pc' := 33) X dX8_pack_32 rfl rfl ?_
      have hv33 := hR29 0 3
      refine z_mget (pc' := 36) X 10 rfl (by decide) q2073 rfl dX8_pack_33 rfl ?_
      rw [mset_s]
      rw [mset_s] at hv33
      refine z_if_le (tgt := 41) (pc' := 39) X (by first | assumption | omega) dX8_pack_36 rfl (by decide) (fun c36 => ?_) (fun c36 => ?_)
      · refine z_aload_n (pc' := 42) X dX8_pack_41 rfl rfl ?_
        refine z_V_void0 (pc' := 45) X rfl Y_X8_saves q2151 dX8_pack_42 rfl (by decide) (Nat.le_refl _) (Nat.le_refl _) (Nat.le_of_ble_eq_true rfl) (c_X8_saves _ _ _ _ (by rw [mset_k (by decide)]; exact hh0)) (fun M42 hp42 hR42 => ?_)
        have hg42 := mThr hp42
        have hA2 := (hA.num (k := 3) (by decide)).saved hp42
        have hS2 := hA2.1
        have hk50 : okA P Q (svA A A.1) := svA_ok hk hkS
        have e42 := whyQ0 (S := A.1) (a := a) (b := b) (c := c) (by omega)
        have e42b := hS2.2.2.2.1
        have e42c : (svA A A.1).1.2.2.2.length = A.1.2.2.2.length := rfl
        have e42d := hS2.2.2.2.2.1
        refine z_aload_n (pc' := 46) X dX8_pack_45 rfl rfl ?_
        refine z_iload_n (pc' := 47) X dX8_pack_46 rfl rfl ?_
        refine z_iload_n (pc' := 48) X dX8_pack_47 rfl rfl ?_
        refine z_iload_n (pc' := 49) X dX8_pack_48 rfl rfl ?_
        refine z_bipush (pc' := 51) X dX8_pack_49 rfl (by decide) ?_
        refine z_V_int4 (pc' := 54) X rfl Y_X8_packs q2330 dX8_pack_51 rfl (by decide) (Nat.le_refl _) (Nat.le_refl _) (Nat.le_of_ble_eq_true rfl) (c_X8_packs _ _ _ _ a b c 20 A.1.2.2.1 (by omega) (by omega) (by omega) (by decide) (okA.I (P := P) (Q := Q) hk50 hA2 hP hQ) hS2.2.2.1 (by omega) (by omega)) (fun r51 M51 hr51 hp51 hR51 => ?_)
        refine z_ireturn X dX8_pack_54 (Nat.le_refl _) (Nat.le_refl _) (fun _ hh => ⟨_, hh, _, rfl, ?_, ?_⟩)
        · first | assumption | omega
        · have hg0 : gPck A.1 a b c = 0 := by unfold gPck; (repeat' split) <;> omega
          rw [hg0]
          obtain ⟨f1, f2⟩ := packs_end hS2 (by omega) hp51
          exact ⟨by rw [hp51.2.2.2.2 0 (by decide), hg42], Or.inr ⟨rfl, f1, hA2.row f2 hp51.2.2.2.2⟩⟩
      · exact absurd c36 (by decide)
  · refine z_iconst (pc' := 11) X dX8_pack_10 rfl ?_
    refine z_goto (tgt := 29) X dX8_pack_11 (by decide) ?_
    refine z_mput (pc' := 32) X 10 3 rfl (by decide) q2073 rfl rfl rfl (by first | assumption | omega) dX8_pack_29 rfl (fun hR29 => ?_)
    refine z_aload_n (pc' := 33) X dX8_pack_32 rfl rfl ?_
    have hv33 := hR29 0 3
    refine z_mget (pc' := 36) X 10 rfl (by decide) q2073 rfl dX8_pack_33 rfl ?_
    rw [mset_s]
    rw [mset_s] at hv33
    refine z_if_le (tgt := 41) (pc' := 39) X (by first | assumption | omega) dX8_pack_36 rfl (by decide) (fun c36 => ?_) (fun c36 => ?_)
    · exact absurd c36 (by decide)
    · refine z_iconst (pc' := 40) X dX8_pack_39 rfl ?_
      refine z_ireturn X dX8_pack_40 (Nat.le_refl _) (Nat.le_refl _) (fun _ hh => ⟨_, hh, _, rfl, ?_, ?_⟩)
      · first | assumption | omega
      · refine ⟨?_, Or.inl ⟨?_, hA.num (by decide)⟩⟩
        · rw [mset_s]; unfold gPck; (repeat' split) <;> omega
        · unfold gPck; (repeat' split) <;> omega
theorem Y_X8_packShort : zYV yX8_packShort cX8_packShort 5 (some .int) 3 := ⟨⟨q2335, q2336, q132, q2337⟩, by decide +kernel, by decide⟩
set_option maxRecDepth 100000 in
theorem c_X8_packShort (l : Launch) (g : zG) (ma : Nat → Nat) (M : MM) (a b c : Int) (A : Ab) (P Q : Int) (ha : rng a) (hb : rng b) (hc : rng c) (hA : mRep M A) (hk : okA P Q A) (hP : P ≤ 900000) (hQ : Q ≤ 9000000) : mInt l yX8_packShort cX8_packShort 5 (some .int) 12 [vR (ma 0), vI a, vI b, vI c] g ma M (fun r M' => outP (gSho A.1 a b c) A (dryL a b c A.1.2.2.1 / 24) (svA A (pckS a b c (dryL a b c A.1.2.2.1 / 24) A.1)) r M') := by
  refine mInt.mk (L0 := [some (vR (ma 0)), some (vI a), some (vI b), some (vI c), none]) (by decide) rfl (Nat.le_of_ble_eq_true rfl) rfl (fun C h hg hl hR X => ?_)
  subst hg hl
  obtain ⟨hS, hN, hH, hT⟩ := id hA
  obtain ⟨hkS, -, -, -⟩ := id hk
  obtain ⟨⟨kc1, -, kc3, kc4, kc5⟩, kb, kp, kq⟩ := id hkS
  have hI := hk.I hA hP hQ
  have hn := mI_n hI
  have hh0 : 0 ≤ M 0 0 ∧ M 0 0 ≤ 5 := ⟨by rw [hH.1]; omega, by rw [hH.1]; have := hH.2.1; omega⟩
  have s0 := sc_at hA (j := 0) (by unfold scI; omega)
  have s1 := sc_at hA (j := 1) (by unfold scI; omega)
  refine z_aload_n (pc' := 1) X dX8_packShort_0 rfl rfl ?_
  refine z_iload_n (pc' := 2) X dX8_packShort_1 rfl rfl ?_
  refine z_iload_n (pc' := 3) X dX8_packShort_2 rfl rfl ?_
  refine z_iload_n (pc' := 4) X dX8_packShort_3 rfl rfl ?_
  refine z_S_fun3 (pc' := 7) X Y_X8_isPaper q2311 dX8_packShort_4 rfl (by decide) (Nat.le_refl _) (Nat.le_refl _) (Nat.le_of_ble_eq_true rfl) (fun h _ => c_X8_isPaper _ _ _ _ _ _ (by first | assumption | omega) (by first | assumption | omega) (by first | assumption | omega)) (fun r4 hr4 hp4 => ?_)
  refine z_if_eq (tgt := 14) (pc' := 10) X (by first | assumption | omega) dX8_packShort_7 rfl (by decide) (fun c7 => ?_) (fun c7 => ?_)
  · refine z_iconst (pc' := 15) X dX8_packShort_14 rfl ?_
    refine z_mput (pc' := 18) X 10 3 rfl (by decide) q2073 rfl rfl rfl (by first | assumption | omega) dX8_packShort_15 rfl (fun hR15 => ?_)
    refine z_aload_n (pc' := 19) X dX8_packShort_18 rfl rfl ?_
    have hv19 := hR15 0 3
    refine z_mget (pc' := 22) X 10 rfl (by decide) q2073 rfl dX8_packShort_19 rfl ?_
    rw [mset_s]
    rw [mset_s] at hv19
    refine z_if_le (tgt := 27) (pc' := 25) X (by first | assumption | omega) dX8_packShort_22 rfl (by decide) (fun c22 => ?_) (fun c22 => ?_)
    · exact absurd c22 (by decide)
    · refine z_iconst (pc' := 26) X dX8_packShort_25 rfl ?_
      refine z_ireturn X dX8_packShort_26 (Nat.le_refl _) (Nat.le_refl _) (fun _ hh => ⟨_, hh, _, rfl, ?_, ?_⟩)
      · first | assumption | omega
      · refine ⟨?_, Or.inl ⟨?_, hA.num (by decide)⟩⟩
        · rw [mset_s]; unfold gSho; (repeat' split) <;> omega
        · unfold gSho; (repeat' split) <;> omega
  · refine z_iconst (pc' := 11) X dX8_packShort_10 rfl ?_
    refine z_goto (tgt := 15) X dX8_packShort_11 (by decide) ?_
    refine z_mput (pc' := 18) X 10 3 rfl (by decide) q2073 rfl rfl rfl (by first | assumption | omega) dX8_packShort_15 rfl (fun hR15 => ?_)
    refine z_aload_n (pc' := 19) X dX8_packShort_18 rfl rfl ?_
    have hv19 := hR15 0 3
    refine z_mget (pc' := 22) X 10 rfl (by decide) q2073 rfl dX8_packShort_19 rfl ?_
    rw [mset_s]
    rw [mset_s] at hv19
    refine z_if_le (tgt := 27) (pc' := 25) X (by first | assumption | omega) dX8_packShort_22 rfl (by decide) (fun c22 => ?_) (fun c22 => ?_)
    · refine z_aload_n (pc' := 28) X dX8_packShort_27 rfl rfl ?_
      refine z_iload_n (pc' := 29) X dX8_packShort_28 rfl rfl ?_
      refine z_iload_n (pc' := 30) X dX8_packShort_29 rfl rfl ?_
      refine z_iload_n (pc' := 31) X dX8_packShort_30 rfl rfl ?_
      refine z_V_fun3 (pc' := 34) X rfl Y_X8_dry q2318 dX8_packShort_31 rfl (by decide) (Nat.le_refl _) (Nat.le_refl _) (Nat.le_of_ble_eq_true rfl) (c_X8_dry _ _ _ _ a b c ha hb hc (by unfold mI; rw [mset_r (by decide)]; exact hI)) (fun r31 hr31 hp31 => ?_)
      subst hp31
      have hr31b := dryL_nn (a := a) (b := b) (c := c) A.1.2.2.1 kp
      rw [dryM_L (hA.num (k := 3) (z := 0) (by decide)).1.2.2.1]
      rw [dryM_L (hA.num (k := 3) (z := 0) (by decide)).1.2.2.1] at hr31
      have e31 : (mset M 0 3 0) 1 6 = A.1.2.2.2.length := (hA.num (k := 3) (z := 0) (by decide)).1.2.2.2.1
      refine z_bipush (pc' := 36) X dX8_packShort_34 rfl (by decide) ?_
      refine z_idivp (pc' := 37) X (by first | assumption | omega) (by decide) dX8_packShort_36 rfl ?_
      refine z_istore (pc' := 39) X dX8_packShort_37 rfl (by decide) rfl ?_
      dsimp only [List.set]
      refine z_aload_n (pc' := 40) X dX8_packShort_39 rfl rfl ?_
      refine z_mget (pc' := 43) X 0 rfl (by decide) q2063 rfl dX8_packShort_40 rfl ?_
      refine z_bipush (pc' := 45) X dX8_packShort_43 rfl (by decide) ?_
      refine z_mld (pc' := 46) X (r := 1) (by decide) (show 0 ≤ _ ∧ _ < (321 : Int) by omega) dX8_packShort_45 rfl (fun hv45 => ?_)
      refine z_bipush (pc' := 48) X dX8_packShort_46 rfl (by decide) ?_
      refine z_icmp_eq (tgt := 62) (pc' := 51) X (by first | assumption | omega) (by first | assumption | omega) dX8_packShort_48 rfl (by decide) (fun c48 => ?_) (fun c48 => ?_)
      · refine z_aload_n (pc' := 63) X dX8_packShort_62 rfl rfl ?_
        refine z_iconst (pc' := 64) X dX8_packShort_63 rfl ?_
        refine z_V_int1 (pc' := 67) X rfl Y_X8_refuses q2338 dX8_packShort_64 rfl (by decide) (Nat.le_refl _) (Nat.le_refl _) (Nat.le_of_ble_eq_true rfl) (c_X8_refuses _ _ _ _ 2 (by decide)) (fun r64 M64 hr64 hp64 hR64 => ?_)
        refine z_ireturn X dX8_packShort_67 (Nat.le_refl _) (Nat.le_refl _) (fun _ hh => ⟨_, hh, _, rfl, ?_, ?_⟩)
        · first | assumption | omega
        · obtain ⟨f1, f2⟩ := hp64
          have hg0 : gSho A.1 a b c = 2 := by unfold gSho; (repeat' split) <;> omega
          rw [hg0]
          exact ⟨by rw [f1, mset_s], Or.inl ⟨by decide, by rw [f1]; exact (hA.num (by decide)).num (by decide)⟩⟩
      · refine z_iload (pc' := 53) X dX8_packShort_51 rfl rfl ?_
        refine z_iconst (pc' := 54) X dX8_packShort_53 rfl ?_
        refine z_bipush (pc' := 56) X dX8_packShort_54 rfl (by decide) ?_
        refine z_S_fun3 (pc' := 59) X Y_X8_in q2123 dX8_packShort_56 rfl (by decide) (Nat.le_refl _) (Nat.le_refl _) (Nat.le_of_ble_eq_true rfl) (fun h _ => c_X8_in _ _ _ _ _ _ (by first | assumption | omega) (by first | assumption | omega) (by first | assumption | omega)) (fun r56 hr56 hp56 => ?_)
        refine z_if_ne (tgt := 68) (pc' := 62) X (by first | assumption | omega) dX8_packShort_59 rfl (by decide) (fun c59 => ?_) (fun c59 => ?_)
        · refine z_aload_n (pc' := 69) X dX8_packShort_68 rfl rfl ?_
          refine z_V_void0 (pc' := 72) X rfl Y_X8_saves q2151 dX8_packShort_69 rfl (by decide) (Nat.le_refl _) (Nat.le_refl _) (Nat.le_of_ble_eq_true rfl) (c_X8_saves _ _ _ _ (by rw [mset_k (by decide)]; exact hh0)) (fun M69 hp69 hR69 => ?_)
          have hg69 := mThr hp69
          have hA2 := (hA.num (k := 3) (by decide)).saved hp69
          have hS2 := hA2.1
          have hk50 : okA P Q (svA A A.1) := svA_ok hk hkS
          have e42b := hS2.2.2.2.1
          have e42c : (svA A A.1).1.2.2.2.length = A.1.2.2.2.length := rfl
          have e42d := hS2.2.2.2.2.1
          refine z_aload_n (pc' := 73) X dX8_packShort_72 rfl rfl ?_
          refine z_iload_n (pc' := 74) X dX8_packShort_73 rfl rfl ?_
          refine z_iload_n (pc' := 75) X dX8_packShort_74 rfl rfl ?_
          refine z_iload_n (pc' := 76) X dX8_packShort_75 rfl rfl ?_
          refine z_iload (pc' := 78) X dX8_packShort_76 rfl rfl ?_
          refine z_V_int4 (pc' := 81) X rfl Y_X8_packs q2330 dX8_packShort_78 rfl (by decide) (Nat.le_refl _) (Nat.le_refl _) (Nat.le_of_ble_eq_true rfl) (c_X8_packs _ _ _ _ a b c (dryL a b c A.1.2.2.1 / 24) A.1.2.2.1 (by omega) (by omega) (by omega) (by omega) (okA.I (P := P) (Q := Q) hk50 hA2 hP hQ) hS2.2.2.1 (by omega) (by omega)) (fun r78 M78 hr78 hp78 hR78 => ?_)
          have e78 := hp78.1
          refine z_if_ge (tgt := 88) (pc' := 84) X (by first | assumption | omega) dX8_packShort_81 rfl (by decide) (fun c81 => ?_) (fun c81 => ?_)
          · refine z_iload (pc' := 90) X dX8_packShort_88 rfl rfl ?_
            refine z_ireturn X dX8_packShort_90 (Nat.le_refl _) (Nat.le_refl _) (fun _ hh => ⟨_, hh, _, rfl, ?_, ?_⟩)
            · first | assumption | omega
            · have hg0 : gSho A.1 a b c = 0 := by unfold gSho; (repeat' split) <;> omega
              rw [hg0]
              obtain ⟨f1, f2⟩ := packs_end hS2 (by omega) hp78
              exact ⟨by rw [hp78.2.2.2.2 0 (by decide), hg69], Or.inr ⟨rfl, rfl, hA2.row f2 hp78.2.2.2.2⟩⟩
          · omega
        · refine z_aload_n (pc' := 63) X dX8_packShort_62 rfl rfl ?_
          refine z_iconst (pc' := 64) X dX8_packShort_63 rfl ?_
          refine z_V_int1 (pc' := 67) X rfl Y_X8_refuses q2338 dX8_packShort_64 rfl (by decide) (Nat.le_refl _) (Nat.le_refl _) (Nat.le_of_ble_eq_true rfl) (c_X8_refuses _ _ _ _ 2 (by decide)) (fun r64 M64 hr64 hp64 hR64 => ?_)
          refine z_ireturn X dX8_packShort_67 (Nat.le_refl _) (Nat.le_refl _) (fun _ hh => ⟨_, hh, _, rfl, ?_, ?_⟩)
          · first | assumption | omega
          · obtain ⟨f1, f2⟩ := hp64
            have hg0 : gSho A.1 a b c = 2 := by unfold gSho; (repeat' split) <;> omega
            rw [hg0]
            exact ⟨by rw [f1, mset_s], Or.inl ⟨by decide, by rw [f1]; exact (hA.num (by decide)).num (by decide)⟩⟩
    · exact absurd c22 (by decide)
theorem Y_X8_pass : zYV yX8_pass cX8_pass 2 (some .int) 1 := ⟨⟨q2367, q2368, q132, q2369⟩, by decide +kernel, by decide⟩
set_option maxRecDepth 100000 in
theorem c_X8_pass (l : Launch) (g : zG) (ma : Nat → Nat) (M : MM) (n : Int) (A : Ab) (P Q : Int) (hn : rng n) (hA : mRep M A) (hk : okA P Q A) (hP : P ≤ 900000) (hQ : Q ≤ 9000000) : mInt l yX8_pass cX8_pass 2 (some .int) 12 [vR (ma 0), vI n] g ma M (fun r M' => outP (gPss A.1 n) A (nLostN n.toNat A.1) (svA A (nightN n.toNat A.1)) r M') := by
  refine mInt.mk (L0 := [some (vR (ma 0)), some (vI n)]) (by decide) rfl (Nat.le_of_ble_eq_true rfl) rfl (fun C h hg hl hR X => ?_)
  subst hg hl
  obtain ⟨hS, hN, hH, hT⟩ := id hA
  obtain ⟨hkS, -, -, -⟩ := id hk
  obtain ⟨⟨kc1, -, kc3, kc4, kc5⟩, kb, kp, kq⟩ := id hkS
  have hI := hk.I hA hP hQ
  have hn := mI_n hI
  have hh0 : 0 ≤ M 0 0 ∧ M 0 0 ≤ 5 := ⟨by rw [hH.1]; omega, by rw [hH.1]; have := hH.2.1; omega⟩
  have s0 := sc_at hA (j := 0) (by unfold scI; omega)
  have s1 := sc_at hA (j := 1) (by unfold scI; omega)
  refine z_aload_n (pc' := 1) X dX8_pass_0 rfl rfl ?_
  refine z_iload_n (pc' := 2) X dX8_pass_1 rfl rfl ?_
  refine z_iconst (pc' := 3) X dX8_pass_2 rfl ?_
  refine z_bipush (pc' := 5) X dX8_pass_3 rfl (by decide) ?_
  refine z_S_fun3 (pc' := 8) X Y_X8_in q2123 dX8_pass_5 rfl (by decide) (Nat.le_refl _) (Nat.le_refl _) (Nat.le_of_ble_eq_true rfl) (fun h _ => c_X8_in _ _ _ _ _ _ (by first | assumption | omega) (by first | assumption | omega) (by first | assumption | omega)) (fun r5 hr5 hp5 => ?_)
  refine z_if_ne (tgt := 15) (pc' := 11) X (by first | assumption | omega) dX8_pass_8 rfl (by decide) (fun c8 => ?_) (fun c8 => ?_)
  · refine z_aload_n (pc' := 16) X dX8_pass_15 rfl rfl ?_
    refine z_iload_n (pc' := 17) X dX8_pass_16 rfl rfl ?_
    refine z_V_fun1 (pc' := 20) X rfl Y_X8_canPass q2370 dX8_pass_17 rfl (by decide) (Nat.le_refl _) (Nat.le_refl _) (Nat.le_of_ble_eq_true rfl) (c_X8_canPass _ _ _ _ _ (by first | assumption | omega) (by first | assumption | omega)) (fun r17 hr17 hp17 => ?_)
    refine z_if_eq (tgt := 27) (pc' := 23) X (by first | assumption | omega) dX8_pass_20 rfl (by decide) (fun c20 => ?_) (fun c20 => ?_)
    · refine z_iconst (pc' := 28) X dX8_pass_27 rfl ?_
      refine z_mput (pc' := 31) X 10 3 rfl (by decide) q2073 rfl rfl rfl (by first | assumption | omega) dX8_pass_28 rfl (fun hR28 => ?_)
      refine z_aload_n (pc' := 32) X dX8_pass_31 rfl rfl ?_
      have hv32 := hR28 0 3
      refine z_mget (pc' := 35) X 10 rfl (by decide) q2073 rfl dX8_pass_32 rfl ?_
      rw [mset_s]
      rw [mset_s] at hv32
      refine z_if_le (tgt := 40) (pc' := 38) X (by first | assumption | omega) dX8_pass_35 rfl (by decide) (fun c35 => ?_) (fun c35 => ?_)
      · exact absurd c35 (by decide)
      · refine z_iconst (pc' := 39) X dX8_pass_38 rfl ?_
        refine z_ireturn X dX8_pass_39 (Nat.le_refl _) (Nat.le_refl _) (fun _ hh => ⟨_, hh, _, rfl, ?_, ?_⟩)
        · first | assumption | omega
        · refine ⟨?_, Or.inl ⟨?_, hA.num (by decide)⟩⟩
          · rw [mset_s]; unfold gPss; (repeat' split) <;> omega
          · unfold gPss; (repeat' split) <;> omega
    · refine z_iconst (pc' := 24) X dX8_pass_23 rfl ?_
      refine z_goto (tgt := 28) X dX8_pass_24 (by decide) ?_
      refine z_mput (pc' := 31) X 10 3 rfl (by decide) q2073 rfl rfl rfl (by first | assumption | omega) dX8_pass_28 rfl (fun hR28 => ?_)
      refine z_aload_n (pc' := 32) X dX8_pass_31 rfl rfl ?_
      have hv32 := hR28 0 3
      refine z_mget (pc' := 35) X 10 rfl (by decide) q2073 rfl dX8_pass_32 rfl ?_
      rw [mset_s]
      rw [mset_s] at hv32
      refine z_if_le (tgt := 40) (pc' := 38) X (by first | assumption | omega) dX8_pass_35 rfl (by decide) (fun c35 => ?_) (fun c35 => ?_)
      · refine z_aload_n (pc' := 41) X dX8_pass_40 rfl rfl ?_
        refine z_V_void0 (pc' := 44) X rfl Y_X8_saves q2151 dX8_pass_41 rfl (by decide) (Nat.le_refl _) (Nat.le_refl _) (Nat.le_of_ble_eq_true rfl) (c_X8_saves _ _ _ _ (by rw [mset_k (by decide)]; exact hh0)) (fun M41 hp41 hR41 => ?_)
        have hg41 := mThr hp41
        have hA2 := (hA.num (k := 3) (by decide)).saved hp41
        have hS2 := hA2.1
        refine z_aload_n (pc' := 45) X dX8_pass_44 rfl rfl ?_
        refine z_iload_n (pc' := 46) X dX8_pass_45 rfl rfl ?_
        refine z_V_int1 (pc' := 49) X rfl Y_X8_passes q2374 dX8_pass_46 rfl (by decide) (Nat.le_refl _) (Nat.le_refl _) (Nat.le_of_ble_eq_true rfl) (c_X8_passes _ _ _ _ n A.1 999 P Q hS2 hkS (by omega) (by omega) (by omega)) (fun r46 M46 hr46 hp46 hR46 => ?_)
        refine z_ireturn X dX8_pass_49 (Nat.le_refl _) (Nat.le_refl _) (fun _ hh => ⟨_, hh, _, rfl, ?_, ?_⟩)
        · first | assumption | omega
        · have hg0 : gPss A.1 n = 0 := by unfold gPss; (repeat' split) <;> omega
          rw [hg0]
          obtain ⟨f1, f2, f3, f4⟩ := hp46
          exact ⟨by rw [f3 3 (by decide), hg41], Or.inr ⟨rfl, f1, hA2.gen f2 ⟨f3 0 (by decide), f3 1 (by decide), f3 2 (by decide)⟩ (f4 2 (by decide) (by decide) (by decide)) (f4 3 (by decide) (by decide) (by decide)) (f4 7 (by decide) (by decide) (by decide))⟩⟩
      · exact absurd c35 (by decide)
  · refine z_iconst (pc' := 12) X dX8_pass_11 rfl ?_
    refine z_goto (tgt := 28) X dX8_pass_12 (by decide) ?_
    refine z_mput (pc' := 31) X 10 3 rfl (by decide) q2073 rfl rfl rfl (by first | assumption | omega) dX8_pass_28 rfl (fun hR28 => ?_)
    refine z_aload_n (pc' := 32) X dX8_pass_31 rfl rfl ?_
    have hv32 := hR28 0 3
    refine z_mget (pc' := 35) X 10 rfl (by decide) q2073 rfl dX8_pass_32 rfl ?_
    rw [mset_s]
    rw [mset_s] at hv32
    refine z_if_le (tgt := 40) (pc' := 38) X (by first | assumption | omega) dX8_pass_35 rfl (by decide) (fun c35 => ?_) (fun c35 => ?_)
    · exact absurd c35 (by decide)
    · refine z_iconst (pc' := 39) X dX8_pass_38 rfl ?_
      refine z_ireturn X dX8_pass_39 (Nat.le_refl _) (Nat.le_refl _) (fun _ hh => ⟨_, hh, _, rfl, ?_, ?_⟩)
      · first | assumption | omega
      · refine ⟨?_, Or.inl ⟨?_, hA.num (by decide)⟩⟩
        · rw [mset_s]; unfold gPss; (repeat' split) <;> omega
        · unfold gPss; (repeat' split) <;> omega
theorem Y_X8_send : zYV yX8_send cX8_send 4 (some .int) 2 := ⟨⟨q2343, q2344, q132, q2345⟩, by decide +kernel, by decide⟩
set_option maxRecDepth 100000 in
theorem c_X8_send (l : Launch) (g : zG) (ma : Nat → Nat) (M : MM) (c i : Int) (A : Ab) (P Q : Int) (hc : rng c) (hi : rng i) (hA : mRep M A) (hk : okA P Q A) (hP : P ≤ 900000) (hQ : Q ≤ 9000000) : mInt l yX8_send cX8_send 4 (some .int) 12 [vR (ma 0), vI c, vI i] g ma M (fun r M' => outP (gSnd A.1 c i) A (priceQ (atB A.1.2.2.2 i)) (svA A (sndS c i A.1)) r M') := by
  refine mInt.mk (L0 := [some (vR (ma 0)), some (vI c), some (vI i), none]) (by decide) rfl (Nat.le_of_ble_eq_true rfl) rfl (fun C h hg hl hR X => ?_)
  subst hg hl
  obtain ⟨hS, hN, hH, hT⟩ := id hA
  obtain ⟨hkS, -, -, -⟩ := id hk
  obtain ⟨⟨kc1, -, kc3, kc4, kc5⟩, kb, kp, kq⟩ := id hkS
  have hI := hk.I hA hP hQ
  have hn := mI_n hI
  have hh0 : 0 ≤ M 0 0 ∧ M 0 0 ≤ 5 := ⟨by rw [hH.1]; omega, by rw [hH.1]; have := hH.2.1; omega⟩
  have s0 := sc_at hA (j := 0) (by unfold scI; omega)
  have s1 := sc_at hA (j := 1) (by unfold scI; omega)
  refine z_aload_n (pc' := 1) X dX8_send_0 rfl rfl ?_
  refine z_iload_n (pc' := 2) X dX8_send_1 rfl rfl ?_
  refine z_S_fun1 (pc' := 5) X Y_X8_isCarter q2120 dX8_send_2 rfl (by decide) (Nat.le_refl _) (Nat.le_refl _) (Nat.le_of_ble_eq_true rfl) (fun h _ => c_X8_isCarter _ _ _ _ (by first | assumption | omega)) (fun r2 hr2 hp2 => ?_)
  refine z_if_eq (tgt := 16) (pc' := 8) X (by first | assumption | omega) dX8_send_5 rfl (by decide) (fun c5 => ?_) (fun c5 => ?_)
  · refine z_iconst (pc' := 17) X dX8_send_16 rfl ?_
    refine z_goto (tgt := 42) X dX8_send_17 (by decide) ?_
    refine z_mput (pc' := 45) X 10 3 rfl (by decide) q2073 rfl rfl rfl (by first | assumption | omega) dX8_send_42 rfl (fun hR42 => ?_)
    refine z_aload_n (pc' := 46) X dX8_send_45 rfl rfl ?_
    have hv46 := hR42 0 3
    refine z_mget (pc' := 49) X 10 rfl (by decide) q2073 rfl dX8_send_46 rfl ?_
    rw [mset_s]
    rw [mset_s] at hv46
    refine z_if_le (tgt := 54) (pc' := 52) X (by first | assumption | omega) dX8_send_49 rfl (by decide) (fun c49 => ?_) (fun c49 => ?_)
    · exact absurd c49 (by decide)
    · refine z_iconst (pc' := 53) X dX8_send_52 rfl ?_
      refine z_ireturn X dX8_send_53 (Nat.le_refl _) (Nat.le_refl _) (fun _ hh => ⟨_, hh, _, rfl, ?_, ?_⟩)
      · first | assumption | omega
      · have hl6 := hS.2.2.2.1
        refine ⟨?_, Or.inl ⟨?_, hA.num (by decide)⟩⟩
        · rw [mset_s]; unfold gSnd; (repeat' split) <;> omega
        · unfold gSnd; (repeat' split) <;> omega
  · refine z_aload_n (pc' := 9) X dX8_send_8 rfl rfl ?_
    refine z_iload_n (pc' := 10) X dX8_send_9 rfl rfl ?_
    refine z_V_fun1 (pc' := 13) X rfl Y_X8_isReam q2346 dX8_send_10 rfl (by decide) (Nat.le_refl _) (Nat.le_refl _) (Nat.le_of_ble_eq_true rfl) (c_X8_isReam _ _ _ _ _ (by first | assumption | omega) (by first | assumption | omega)) (fun r10 hr10 hp10 => ?_)
    have hl6 := hS.2.2.2.1
    refine z_if_ne (tgt := 20) (pc' := 16) X (by first | assumption | omega) dX8_send_13 rfl (by decide) (fun c13 => ?_) (fun c13 => ?_)
    · refine z_aload_n (pc' := 21) X dX8_send_20 rfl rfl ?_
      refine z_iload_n (pc' := 22) X dX8_send_21 rfl rfl ?_
      refine z_V_fun1 (pc' := 25) X rfl Y_X8_debt q2139 dX8_send_22 rfl (by decide) (Nat.le_refl _) (Nat.le_refl _) (Nat.le_of_ble_eq_true rfl) (c_X8_debt _ _ _ _ _ (by first | assumption | omega)) (fun r22 hr22 hp22 => ?_)
      subst hp22
      have e22 : mDebt M c = _ := mDebt_S hS (c := c) (by omega)
      rw [e22]
      rw [e22] at hr22
      have k22 := (kc3 c (by omega) (by omega)).1
      refine z_aload_n (pc' := 26) X dX8_send_25 rfl rfl ?_
      refine z_iload_n (pc' := 27) X dX8_send_26 rfl rfl ?_
      refine z_V_fun1 (pc' := 30) X rfl Y_X8_tollOf q2350 dX8_send_27 rfl (by decide) (Nat.le_refl _) (Nat.le_refl _) (Nat.le_of_ble_eq_true rfl) (c_X8_tollOf _ _ _ _ _ (by first | assumption | omega)) (fun r27 hr27 hp27 => ?_)
      subst hp27
      rw [(rR_at hS.2.2.2 (i := i) (by omega)).2.2.2]
      rw [(rR_at hS.2.2.2 (i := i) (by omega)).2.2.2] at hr27
      change rng (tollQ (atB A.1.2.2.2 i)) at hr27
      refine (show ZP _ _ _ _ _ _ _ (vI (tollQ (atB A.1.2.2.2 i)) :: _) from ?_)
      have k27 : 0 ≤ tollQ (atB A.1.2.2.2 i) ∧ tollQ (atB A.1.2.2.2 i) ≤ 4 := by unfold tollQ; split <;> omega
      refine z_iadd (pc' := 31) X dX8_send_30 rfl ?_
      refine z_sipush (pc' := 34) X dX8_send_31 rfl (by decide) ?_
      refine z_icmp_le (tgt := 41) (pc' := 37) X (by first | assumption | omega) (by first | assumption | omega) dX8_send_34 rfl (by decide) (fun c34 => ?_) (fun c34 => ?_)
      · refine z_iconst (pc' := 42) X dX8_send_41 rfl ?_
        refine z_mput (pc' := 45) X 10 3 rfl (by decide) q2073 rfl rfl rfl (by first | assumption | omega) dX8_send_42 rfl (fun hR42 => ?_)
        refine z_aload_n (pc' := 46) X dX8_send_45 rfl rfl ?_
        have hv46 := hR42 0 3
        refine z_mget (pc' := 49) X 10 rfl (by decide) q2073 rfl dX8_send_46 rfl ?_
        rw [mset_s]
        rw [mset_s] at hv46
        refine z_if_le (tgt := 54) (pc' := 52) X (by first | assumption | omega) dX8_send_49 rfl (by decide) (fun c49 => ?_) (fun c49 => ?_)
        · refine z_aload_n (pc' := 55) X dX8_send_54 rfl rfl ?_
          refine z_V_void0 (pc' := 58) X rfl Y_X8_saves q2151 dX8_send_55 rfl (by decide) (Nat.le_refl _) (Nat.le_refl _) (Nat.le_of_ble_eq_true rfl) (c_X8_saves _ _ _ _ (by rw [mset_k (by decide)]; exact hh0)) (fun M55 hp55 hR55 => ?_)
          have hg55 := mThr hp55
          have hA2 := (hA.num (k := 3) (by decide)).saved hp55
          have hS2 := hA2.1
          have hk50 : okA P Q (svA A A.1) := svA_ok hk hkS
          have hl6 := hS2.2.2.2.1
          have e55 : (svA A A.1).1.2.2.2.length = A.1.2.2.2.length := rfl
          have hri := rR_at hS2.2.2.2 (i := i) (by omega)
          have hpr : mPrice M55 i = priceQ (atB A.1.2.2.2 i) := by unfold mPrice; rw [hri.2.1, hri.2.2.1, hri.2.2.2]; rfl
          have kQ := kq _ (atB_mem (i := i) (qs := A.1.2.2.2) (by omega))
          have kpr := price_ok kQ
          have kun := units_ok kQ
          refine z_aload_n (pc' := 59) X dX8_send_58 rfl rfl ?_
          refine z_iload_n (pc' := 60) X dX8_send_59 rfl rfl ?_
          refine z_V_fun1 (pc' := 63) X rfl Y_X8_price q2358 dX8_send_60 rfl (by decide) (Nat.le_refl _) (Nat.le_refl _) (Nat.le_of_ble_eq_true rfl) (c_X8_price _ _ _ _ i (by omega) (okA.I (P := P) (Q := Q) hk50 hA2 hP hQ)) (fun r60 hr60 hp60 => ?_)
          subst hp60
          rw [hpr]
          rw [hpr] at hr60
          refine z_istore_n (pc' := 64) X dX8_send_63 rfl (by decide) rfl ?_
          dsimp only [List.set]
          refine z_aload_n (pc' := 65) X dX8_send_64 rfl rfl ?_
          refine z_mget (pc' := 68) X 0 rfl (by decide) q2063 rfl dX8_send_65 rfl ?_
          refine z_bipush (pc' := 70) X dX8_send_68 rfl (by decide) ?_
          refine z_iconst (pc' := 71) X dX8_send_70 rfl ?_
          refine z_iload_n (pc' := 72) X dX8_send_71 rfl rfl ?_
          refine z_imul (pc' := 73) X dX8_send_72 rfl ?_
          refine z_iadd (pc' := 74) X dX8_send_73 rfl ?_
          refine z_dup2 (pc' := 75) X rfl rfl dX8_send_74 rfl ?_
          refine z_mld (pc' := 76) X (r := 1) (by decide) (show 0 ≤ _ ∧ _ < (321 : Int) by omega) dX8_send_75 rfl (fun hv75 => ?_)
          have e75 : M55 1 (13 + 2 * c) = A.1.1 (13 + 2 * c) := hS2.1 _ (by unfold scI; omega)
          rw [e75]
          rw [e75] at hv75
          refine z_aload_n (pc' := 77) X dX8_send_76 rfl rfl ?_
          refine z_iload_n (pc' := 78) X dX8_send_77 rfl rfl ?_
          refine z_V_fun1 (pc' := 81) X rfl Y_X8_tollOf q2350 dX8_send_78 rfl (by decide) (Nat.le_refl _) (Nat.le_refl _) (Nat.le_of_ble_eq_true rfl) (c_X8_tollOf _ _ _ _ _ (by first | assumption | omega)) (fun r78 hr78 hp78 => ?_)
          subst hp78
          rw [hri.2.2.2]
          rw [hri.2.2.2] at hr78
          change rng (tollQ (atB A.1.2.2.2 i)) at hr78
          refine (show ZP _ _ _ _ _ _ _ (vI (tollQ (atB A.1.2.2.2 i)) :: _) from ?_)
          have hX1 := hS2.set (z := A.1.1 (13 + 2 * c) + tollQ (atB A.1.2.2.2 i)) (show scI (13 + 2 * c) by unfold scI; omega)
          have kX1 : okSc 999 P Q (iup A.1.1 (13 + 2 * c) (A.1.1 (13 + 2 * c) + tollQ (atB A.1.2.2.2 i))) := hkS.1.up ⟨by omega, by omega, by omega, by omega, by omega, by omega, fun d x y => ⟨fun _ => by omega, fun _ => by omega⟩, fun v x y => ⟨by omega, by omega, by omega⟩, fun v x y => ⟨by omega, by omega, by omega⟩⟩
          refine z_iadd (pc' := 82) X dX8_send_81 rfl ?_
          refine z_mst (pc' := 83) X (r := 1) (by decide) (show 0 ≤ _ ∧ _ < (321 : Int) by omega) (by first | assumption | omega) dX8_send_82 rfl (fun hR82 => ?_)
          refine z_aload_n (pc' := 84) X dX8_send_83 rfl rfl ?_
          refine z_mget (pc' := 87) X 0 rfl (by decide) q2063 rfl dX8_send_84 rfl ?_
          refine z_iconst (pc' := 88) X dX8_send_87 rfl ?_
          refine z_dup2 (pc' := 89) X rfl rfl dX8_send_88 rfl ?_
          refine z_mld (pc' := 90) X (r := 1) (by decide) (show 0 ≤ _ ∧ _ < (321 : Int) by omega) dX8_send_89 rfl (fun hv89 => ?_)
          have e89 : mset M55 1 (13 + 2 * c) (A.1.1 (13 + 2 * c) + tollQ (atB A.1.2.2.2 i)) 1 1 = A.1.1 1 := by rw [mset_k (by omega)]; exact hS2.1 _ (by unfold scI; omega)
          rw [e89]
          rw [e89] at hv89
          have hX2 := hX1.set (z := A.1.1 1 + priceQ (atB A.1.2.2.2 i)) (show scI 1 by unfold scI; omega)
          have kX2 : okSc 999 (P + 390) Q (iup (iup A.1.1 (13 + 2 * c) (A.1.1 (13 + 2 * c) + tollQ (atB A.1.2.2.2 i))) 1 (A.1.1 1 + priceQ (atB A.1.2.2.2 i))) := (kX1.mono (by omega) (Int.le_refl Q)).up ⟨by omega, by omega, by omega, by omega, by omega, by omega, fun d x y => ⟨by omega, by omega⟩, fun v x y => ⟨by omega, by omega, by omega⟩, fun v x y => ⟨by omega, by omega, by omega⟩⟩
          refine z_iload_n (pc' := 91) X dX8_send_90 rfl rfl ?_
          refine z_iadd (pc' := 92) X dX8_send_91 rfl ?_
          refine z_mst (pc' := 93) X (r := 1) (by decide) (show 0 ≤ _ ∧ _ < (321 : Int) by omega) (by first | assumption | omega) dX8_send_92 rfl (fun hR92 => ?_)
          refine z_aload_n (pc' := 94) X dX8_send_93 rfl rfl ?_
          refine z_mget (pc' := 97) X 0 rfl (by decide) q2063 rfl dX8_send_94 rfl ?_
          refine z_bipush (pc' := 99) X dX8_send_97 rfl (by decide) ?_
          refine z_dup2 (pc' := 100) X rfl rfl dX8_send_99 rfl ?_
          refine z_mld (pc' := 101) X (r := 1) (by decide) (show 0 ≤ _ ∧ _ < (321 : Int) by omega) dX8_send_100 rfl (fun hv100 => ?_)
          have e100 : mset (mset M55 1 (13 + 2 * c) (A.1.1 (13 + 2 * c) + tollQ (atB A.1.2.2.2 i))) 1 1 (A.1.1 1 + priceQ (atB A.1.2.2.2 i)) 1 7 = A.1.1 7 := by rw [mset_k (by omega), mset_k (by omega)]; exact hS2.1 _ (by unfold scI; omega)
          rw [e100]
          rw [e100] at hv100
          have hri2 := rR_at (qs := A.1.2.2.2) hX2.2.2.2 (i := i) (by omega)
          have hl6b := hX2.2.2.2.1
          refine z_aload_n (pc' := 102) X dX8_send_101 rfl rfl ?_
          refine z_iload_n (pc' := 103) X dX8_send_102 rfl rfl ?_
          refine z_V_fun1 (pc' := 106) X rfl Y_X8_unitsOf q2362 dX8_send_103 rfl (by decide) (Nat.le_refl _) (Nat.le_refl _) (Nat.le_of_ble_eq_true rfl) (c_X8_unitsOf _ _ _ _ i ⟨by omega, by rw [hl6b]; exact_mod_cast (by omega : i < (A.1.2.2.2.length : Int))⟩ (okN.of (by decide : (999 : Int) ≤ 2000) (by omega : P + 390 ≤ 1000000) (by omega : Q ≤ 10000000) hX2 ⟨kX2, kb, kp, kq⟩)) (fun r103 hr103 hp103 => ?_)
          subst hp103
          rw [hri2.2.1, hri2.2.2.2]
          rw [hri2.2.1, hri2.2.2.2] at hr103
          change rng (unitsQ (atB A.1.2.2.2 i)) at hr103
          refine (show ZP _ _ _ _ _ _ _ (vI (unitsQ (atB A.1.2.2.2 i)) :: _) from ?_)
          have hX3 := hX2.set (z := A.1.1 7 + unitsQ (atB A.1.2.2.2 i)) (show scI 7 by unfold scI; omega)
          have hl6c := hX3.2.2.2.1
          have hl6d := hX3.2.2.2.2.1
          refine z_iadd (pc' := 107) X dX8_send_106 rfl ?_
          refine z_mst (pc' := 108) X (r := 1) (by decide) (show 0 ≤ _ ∧ _ < (321 : Int) by omega) (by first | assumption | omega) dX8_send_107 rfl (fun hR107 => ?_)
          refine z_aload_n (pc' := 109) X dX8_send_108 rfl rfl ?_
          refine z_sipush (pc' := 112) X dX8_send_109 rfl (by decide) ?_
          refine z_iconst (pc' := 113) X dX8_send_112 rfl ?_
          refine z_iload_n (pc' := 114) X dX8_send_113 rfl rfl ?_
          refine z_bipush (pc' := 116) X dX8_send_114 rfl (by decide) ?_
          refine z_V_void4 (pc' := 119) X rfl Y_X8_takesOut q2202 dX8_send_116 rfl (by decide) (Nat.le_refl _) (Nat.le_refl _) (Nat.le_of_ble_eq_true rfl) (c_X8_takesOut_r _ _ _ _ i ⟨by omega, by rw [hl6c]; show i < (A.1.2.2.2.length : Int); omega⟩ (by rw [hl6c]; show (A.1.2.2.2.length : Int) ≤ 30; have := hS.2.2.2.2.1; omega)) (fun M116 hp116 hR116 => ?_)
          refine z_iload_n (pc' := 120) X dX8_send_119 rfl rfl ?_
          refine z_ireturn X dX8_send_120 (Nat.le_refl _) (Nat.le_refl _) (fun _ hh => ⟨_, hh, _, rfl, ?_, ?_⟩)
          · first | assumption | omega
          · have hg0 : gSnd A.1 c i = 0 := by unfold gSnd; (repeat' split) <;> omega
            rw [hg0]
            obtain ⟨f1, f2⟩ := (fun q => send_end (i := i) q hX3) (show 0 ≤ i ∧ i < (A.1.2.2.2.length : Int) by omega)
            rw [hp116]
            exact ⟨by rw [f2 0 (by decide), mset_r (by decide), mset_r (by decide), mset_r (by decide), hg55], Or.inr ⟨rfl, rfl, hA2.row f1 (fun q hq => by rw [f2 q hq, mset_r hq, mset_r hq, mset_r hq])⟩⟩
        · exact absurd c49 (by decide)
      · refine z_iconst (pc' := 38) X dX8_send_37 rfl ?_
        refine z_goto (tgt := 42) X dX8_send_38 (by decide) ?_
        refine z_mput (pc' := 45) X 10 3 rfl (by decide) q2073 rfl rfl rfl (by first | assumption | omega) dX8_send_42 rfl (fun hR42 => ?_)
        refine z_aload_n (pc' := 46) X dX8_send_45 rfl rfl ?_
        have hv46 := hR42 0 3
        refine z_mget (pc' := 49) X 10 rfl (by decide) q2073 rfl dX8_send_46 rfl ?_
        rw [mset_s]
        rw [mset_s] at hv46
        refine z_if_le (tgt := 54) (pc' := 52) X (by first | assumption | omega) dX8_send_49 rfl (by decide) (fun c49 => ?_) (fun c49 => ?_)
        · exact absurd c49 (by decide)
        · refine z_iconst (pc' := 53) X dX8_send_52 rfl ?_
          refine z_ireturn X dX8_send_53 (Nat.le_refl _) (Nat.le_refl _) (fun _ hh => ⟨_, hh, _, rfl, ?_, ?_⟩)
          · first | assumption | omega
          · have hl6 := hS.2.2.2.1
            refine ⟨?_, Or.inl ⟨?_, hA.num (by decide)⟩⟩
            · rw [mset_s]; unfold gSnd; (repeat' split) <;> omega
            · unfold gSnd; (repeat' split) <;> omega
    · refine z_iconst (pc' := 17) X dX8_send_16 rfl ?_
      refine z_goto (tgt := 42) X dX8_send_17 (by decide) ?_
      refine z_mput (pc' := 45) X 10 3 rfl (by decide) q2073 rfl rfl rfl (by first | assumption | omega) dX8_send_42 rfl (fun hR42 => ?_)
      refine z_aload_n (pc' := 46) X dX8_send_45 rfl rfl ?_
      have hv46 := hR42 0 3
      refine z_mget (pc' := 49) X 10 rfl (by decide) q2073 rfl dX8_send_46 rfl ?_
      rw [mset_s]
      rw [mset_s] at hv46
      refine z_if_le (tgt := 54) (pc' := 52) X (by first | assumption | omega) dX8_send_49 rfl (by decide) (fun c49 => ?_) (fun c49 => ?_)
      · exact absurd c49 (by decide)
      · refine z_iconst (pc' := 53) X dX8_send_52 rfl ?_
        refine z_ireturn X dX8_send_53 (Nat.le_refl _) (Nat.le_refl _) (fun _ hh => ⟨_, hh, _, rfl, ?_, ?_⟩)
        · first | assumption | omega
        · have hl6 := hS.2.2.2.1
          refine ⟨?_, Or.inl ⟨?_, hA.num (by decide)⟩⟩
          · rw [mset_s]; unfold gSnd; (repeat' split) <;> omega
          · unfold gSnd; (repeat' split) <;> omega
end M12

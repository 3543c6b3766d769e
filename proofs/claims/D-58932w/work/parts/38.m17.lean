/-! THE MODEL: the text, its reader's small methods -/
section M17
def gApp (A : Ab) (c : Int) : Int := if ¬ (32 ≤ c ∧ c ≤ 126) then 1 else if A.2.2.2.length = 60 then 2 else 0
def appS (A : Ab) (c : Int) : Ab := (A.1, A.2.1, A.2.2.1, A.2.2.2 ++ [c])
def clrS (A : Ab) : Ab := (A.1, A.2.1, A.2.2.1, [])
theorem mRep.text {M M' : MM} {A : Ab} {tx : List Int} (h : mRep M A) (ht : tRep M' tx) (hr : ∀ q, q ≠ 0 → q ≠ 7 → M' q = M q) (h0 : M' 0 0 = M 0 0 ∧ M' 0 1 = M 0 1) : mRep M' (A.1, A.2.1, A.2.2.1, tx) := by
  obtain ⟨hc, hn, hh, -⟩ := h
  refine ⟨by rw [hr 1 (by decide) (by decide)]; exact hc, ?_, ⟨h0.1.trans hh.1, hh.2.1, fun i S hi => ?_⟩, ht⟩
  · show nRep M' A.2.1
    unfold nRep
    rw [h0.2, hr 3 (by decide) (by decide)]
    exact hn
  · show sRep (fun j => M' 2 (321 * (i : Int) + j)) S
    rw [hr 2 (by decide) (by decide)]
    exact hh.2.2 i S hi
theorem tRep.app {M : MM} {tx : List Int} {c z : Int} (h : tRep M tx) (hl : tx.length < 60) : tRep (mset (mset (mset M 0 3 z) 7 (M 0 2) c) 0 2 (M 0 2 + 1)) (tx ++ [c]) := by
  obtain ⟨h1, h2, h3⟩ := h
  refine ⟨by rw [mset_s, h1, List.length_append]; rfl, by rw [List.length_append]; exact hl, fun i b hi => ?_⟩
  rw [mset_r (by decide)]
  by_cases hlt : i < tx.length
  · rw [List.getElem?_append_left hlt] at hi
    rw [mset_k (by omega), mset_r (by decide)]
    exact h3 i b hi
  · rw [List.getElem?_append_right (by omega)] at hi
    obtain rfl : i = tx.length := by
      have := (List.getElem?_eq_some_iff.mp hi).1
      simp only [List.length_cons, List.length_nil] at this
      omega
    rw [Nat.sub_self] at hi
    cases hi
    rw [← h1, mset_s]
/-- the sign at a place of the text; none behind it -/
def tS (tx : List Int) (p : Int) : Int := if p < tx.length then (tx[p.toNat]?).getD 0 else -1
theorem tS_at {M : MM} {tx : List Int} {p : Int} (h : tRep M tx) (hp : 0 ≤ p ∧ p < tx.length) : M 7 p = tS tx p := by
  unfold tS
  have hl : p.toNat < tx.length := by omega
  rw [if_pos hp.2, List.getElem?_eq_getElem hl]
  have q := h.2.2 p.toNat _ (List.getElem?_eq_getElem hl)
  rw [show ((p.toNat : Nat) : Int) = p by omega] at q
  exact q
theorem tS_n {tx : List Int} {p : Int} (hp : (tx.length : Int) ≤ p) : tS tx p = -1 := if_neg (by omega)
theorem tS_b {tx : List Int} {p : Int} (hk : ∀ c ∈ tx, 32 ≤ c ∧ c ≤ 126) (h0 : 0 ≤ p) : -1 ≤ tS tx p ∧ tS tx p ≤ 126 := by
  unfold tS
  by_cases hp : p < tx.length
  · rw [if_pos hp, List.getElem?_eq_getElem (by omega : p.toNat < tx.length)]
    have q := hk _ (List.getElem_mem (by omega : p.toNat < tx.length))
    exact ⟨by show -1 ≤ tx[p.toNat]; omega, q.2⟩
  · rw [if_neg hp]; decide
theorem tS_lt {tx : List Int} {p : Int} (h : tS tx p ≠ -1) : p < tx.length := Classical.byContradiction fun q => h (tS_n (by omega))
theorem tRep.num {M : MM} {tx : List Int} {k z : Int} (h : tRep M tx) (hk : k ≠ 2) : tRep (mset M 0 k z) tx := ⟨(mset_k (by omega)).trans h.1, h.2.1, fun i c hi => by rw [mset_r (by decide)]; exact h.2.2 i c hi⟩
theorem tRep.row {M : MM} {tx : List Int} {r : Nat} {k z : Int} (h : tRep M tx) (hr : r ≠ 0 ∧ r ≠ 7) : tRep (mset M r k z) tx := ⟨by rw [mset_r (fun q => hr.1 q.symm)]; exact h.1, h.2.1, fun i c hi => by rw [mset_r (fun q => hr.2 q.symm)]; exact h.2.2 i c hi⟩
theorem mset_id {M : MM} {r : Nat} {k z : Int} (h : M r k = z) : mset M r k z = M := by
  funext q j
  by_cases hq : q = r
  · subst hq
    by_cases hj : j = k
    · subst hj; rw [mset_s, h]
    · rw [mset_k hj]
  · rw [mset_r hq]
def srt (v : Int) : Int := if v = 108 then 0 else if v = 99 then 1 else if v = 104 then 2 else if v = 119 then 3 else -1
def tmz (tx : List Int) (p : Int) : Int := if 49 ≤ tS tx p ∧ tS tx p ≤ 57 then tS tx p - 48 else 0
def bit (P : Prop) [Decidable P] : Int := if P then 1 else 0
theorem Y_X8_append : zYV yX8_append cX8_append 2 (some .int) 1 := ⟨⟨q2591, q2592, q132, q2593⟩, by decide +kernel, by decide⟩
set_option maxRecDepth 100000 in
theorem c_X8_append (l : Launch) (g : zG) (ma : Nat → Nat) (M : MM) (c : Int) (A : Ab) (P Q : Int) (hc : rng c) (hA : mRep M A) (hk : okA P Q A) (hP : P ≤ 900000) (hQ : Q ≤ 9000000) : mInt l yX8_append cX8_append 2 (some .int) 12 [vR (ma 0), vI c] g ma M (fun r M' => outP (gApp A c) A (A.2.2.2.length + 1) (appS A c) r M') := by
  refine mInt.mk (L0 := [some (vR (ma 0)), some (vI c)]) (by decide) rfl (Nat.le_of_ble_eq_true rfl) rfl (fun C h hg hl hR X => ?_)
  subst hg hl
  obtain ⟨hS, hN, hH, hT⟩ := id hA
  obtain ⟨hkS, -, -, -⟩ := id hk
  obtain ⟨⟨kc1, -, kc3, kc4, kc5⟩, kb, kp, kq⟩ := id hkS
  have hI := hk.I hA hP hQ
  have hn := mI_n hI
  have hh0 : 0 ≤ M 0 0 ∧ M 0 0 ≤ 5 := ⟨by rw [hH.1]; omega, by rw [hH.1]; have := hH.2.1; omega⟩
  have s0 := sc_at hA (j := 0) (by unfold scI; omega)
  have s1 := sc_at hA (j := 1) (by unfold scI; omega)
  have q2 := hT.1
  have q2b := hT.2.1
  refine z_aload_n (pc' := 1) X dX8_append_0 rfl rfl ?_
  refine z_iload_n (pc' := 2) X dX8_append_1 rfl rfl ?_
  refine z_bipush (pc' := 4) X dX8_append_2 rfl (by decide) ?_
  refine z_bipush (pc' := 6) X dX8_append_4 rfl (by decide) ?_
  refine z_S_fun3 (pc' := 9) X Y_X8_in q2123 dX8_append_6 rfl (by decide) (Nat.le_refl _) (Nat.le_refl _) (Nat.le_of_ble_eq_true rfl) (fun h _ => c_X8_in _ _ _ _ _ _ (by first | assumption | omega) (by first | assumption | omega) (by first | assumption | omega)) (fun r6 hr6 hp6 => ?_)
  refine z_if_ne (tgt := 16) (pc' := 12) X (by first | assumption | omega) dX8_append_9 rfl (by decide) (fun c9 => ?_) (fun c9 => ?_)
  · refine z_aload_n (pc' := 17) X dX8_append_16 rfl rfl ?_
    have hv17 := hR 0 2
    refine z_mget (pc' := 20) X 9 rfl (by decide) q2072 rfl dX8_append_17 rfl ?_
    refine z_bipush (pc' := 22) X dX8_append_20 rfl (by decide) ?_
    refine z_icmp_ne (tgt := 29) (pc' := 25) X (by first | assumption | omega) (by first | assumption | omega) dX8_append_22 rfl (by decide) (fun c22 => ?_) (fun c22 => ?_)
    · refine z_iconst (pc' := 30) X dX8_append_29 rfl ?_
      refine z_mput (pc' := 33) X 10 3 rfl (by decide) q2073 rfl rfl rfl (by first | assumption | omega) dX8_append_30 rfl (fun hR30 => ?_)
      refine z_aload_n (pc' := 34) X dX8_append_33 rfl rfl ?_
      have hv34 := hR30 0 3
      refine z_mget (pc' := 37) X 10 rfl (by decide) q2073 rfl dX8_append_34 rfl ?_
      rw [mset_s]
      rw [mset_s] at hv34
      refine z_if_le (tgt := 42) (pc' := 40) X (by first | assumption | omega) dX8_append_37 rfl (by decide) (fun c37 => ?_) (fun c37 => ?_)
      · refine z_aload_n (pc' := 43) X dX8_append_42 rfl rfl ?_
        refine z_mget (pc' := 46) X 8 rfl (by decide) q2071 rfl dX8_append_43 rfl ?_
        refine z_aload_n (pc' := 47) X dX8_append_46 rfl rfl ?_
        have hv47 := hR30 0 2
        refine z_mget (pc' := 50) X 9 rfl (by decide) q2072 rfl dX8_append_47 rfl ?_
        rw [mset_k (by decide)]
        rw [mset_k (by decide)] at hv47
        refine z_iload_n (pc' := 51) X dX8_append_50 rfl rfl ?_
        refine z_mst (pc' := 52) X (r := 7) (by decide) (show 0 ≤ _ ∧ _ < (60 : Int) by omega) (by first | assumption | omega) dX8_append_51 rfl (fun hR51 => ?_)
        refine z_aload_n (pc' := 53) X dX8_append_52 rfl rfl ?_
        refine z_dup (pc' := 54) X rfl dX8_append_53 rfl ?_
        have hv54 := hR51 0 2
        refine z_mget (pc' := 57) X 9 rfl (by decide) q2072 rfl dX8_append_54 rfl ?_
        rw [mset_r (by decide), mset_k (by decide)]
        rw [mset_r (by decide), mset_k (by decide)] at hv54
        refine z_iconst (pc' := 58) X dX8_append_57 rfl ?_
        refine z_iadd (pc' := 59) X dX8_append_58 rfl ?_
        refine z_mput (pc' := 62) X 9 2 rfl (by decide) q2072 rfl rfl rfl (by first | assumption | omega) dX8_append_59 rfl (fun hR59 => ?_)
        refine z_aload_n (pc' := 63) X dX8_append_62 rfl rfl ?_
        have hv63 := hR59 0 2
        refine z_mget (pc' := 66) X 9 rfl (by decide) q2072 rfl dX8_append_63 rfl ?_
        rw [mset_s]
        rw [mset_s] at hv63
        refine z_ireturn X dX8_append_66 (Nat.le_refl _) (Nat.le_refl _) (fun _ hh => ⟨_, hh, _, rfl, ?_, ?_⟩)
        · first | assumption | omega
        · have hg0 : gApp A c = 0 := by unfold gApp; (repeat' split) <;> omega
          rw [hg0]
          exact ⟨by rw [mset_k (by decide), mset_r (by decide), mset_s], Or.inr ⟨rfl, by omega, hA.text (hT.app (by omega)) (fun q x y => by rw [mset_r x, mset_r y, mset_r x]) ⟨by rw [mset_k (by decide), mset_r (by decide), mset_k (by decide)], by rw [mset_k (by decide), mset_r (by decide), mset_k (by decide)]⟩⟩⟩
      · exact absurd c37 (by decide)
    · refine z_iconst (pc' := 26) X dX8_append_25 rfl ?_
      refine z_goto (tgt := 30) X dX8_append_26 (by decide) ?_
      refine z_mput (pc' := 33) X 10 3 rfl (by decide) q2073 rfl rfl rfl (by first | assumption | omega) dX8_append_30 rfl (fun hR30 => ?_)
      refine z_aload_n (pc' := 34) X dX8_append_33 rfl rfl ?_
      have hv34 := hR30 0 3
      refine z_mget (pc' := 37) X 10 rfl (by decide) q2073 rfl dX8_append_34 rfl ?_
      rw [mset_s]
      rw [mset_s] at hv34
      refine z_if_le (tgt := 42) (pc' := 40) X (by first | assumption | omega) dX8_append_37 rfl (by decide) (fun c37 => ?_) (fun c37 => ?_)
      · exact absurd c37 (by decide)
      · refine z_iconst (pc' := 41) X dX8_append_40 rfl ?_
        refine z_ireturn X dX8_append_41 (Nat.le_refl _) (Nat.le_refl _) (fun _ hh => ⟨_, hh, _, rfl, ?_, ?_⟩)
        · first | assumption | omega
        · refine ⟨?_, Or.inl ⟨?_, hA.num (by decide)⟩⟩
          · rw [mset_s]; unfold gApp; (repeat' split) <;> omega
          · unfold gApp; (repeat' split) <;> omega
  · refine z_iconst (pc' := 13) X dX8_append_12 rfl ?_
    refine z_goto (tgt := 30) X dX8_append_13 (by decide) ?_
    refine z_mput (pc' := 33) X 10 3 rfl (by decide) q2073 rfl rfl rfl (by first | assumption | omega) dX8_append_30 rfl (fun hR30 => ?_)
    refine z_aload_n (pc' := 34) X dX8_append_33 rfl rfl ?_
    have hv34 := hR30 0 3
    refine z_mget (pc' := 37) X 10 rfl (by decide) q2073 rfl dX8_append_34 rfl ?_
    rw [mset_s]
    rw [mset_s] at hv34
    refine z_if_le (tgt := 42) (pc' := 40) X (by first | assumption | omega) dX8_append_37 rfl (by decide) (fun c37 => ?_) (fun c37 => ?_)
    · exact absurd c37 (by decide)
    · refine z_iconst (pc' := 41) X dX8_append_40 rfl ?_
      refine z_ireturn X dX8_append_41 (Nat.le_refl _) (Nat.le_refl _) (fun _ hh => ⟨_, hh, _, rfl, ?_, ?_⟩)
      · first | assumption | omega
      · refine ⟨?_, Or.inl ⟨?_, hA.num (by decide)⟩⟩
        · rw [mset_s]; unfold gApp; (repeat' split) <;> omega
        · unfold gApp; (repeat' split) <;> omega
theorem Y_X8_clearText : zYV yX8_clearText cX8_clearText 2 (some .int) 0 := ⟨⟨q2595, q2596, q132, q2597⟩, by decide +kernel, by decide⟩
set_option maxRecDepth 100000 in
theorem c_X8_clearText (l : Launch) (g : zG) (ma : Nat → Nat) (M : MM) (A : Ab) (P Q : Int) (hA : mRep M A) (hk : okA P Q A) (hP : P ≤ 900000) (hQ : Q ≤ 9000000) : mInt l yX8_clearText cX8_clearText 2 (some .int) 7 [vR (ma 0)] g ma M (fun r M' => outP 0 A (A.2.2.2.length) (clrS A) r M') := by
  refine mInt.mk (L0 := [some (vR (ma 0)), none]) (by decide) rfl (Nat.le_of_ble_eq_true rfl) rfl (fun C h hg hl hR X => ?_)
  subst hg hl
  obtain ⟨hS, hN, hH, hT⟩ := id hA
  obtain ⟨hkS, -, -, -⟩ := id hk
  obtain ⟨⟨kc1, -, kc3, kc4, kc5⟩, kb, kp, kq⟩ := id hkS
  have hI := hk.I hA hP hQ
  have hn := mI_n hI
  have hh0 : 0 ≤ M 0 0 ∧ M 0 0 ≤ 5 := ⟨by rw [hH.1]; omega, by rw [hH.1]; have := hH.2.1; omega⟩
  have s0 := sc_at hA (j := 0) (by unfold scI; omega)
  have s1 := sc_at hA (j := 1) (by unfold scI; omega)
  have hA0 : mRep (mset M 0 3 0) A := hA.num (by decide)
  have hS0 := hA0.1
  have hI0 : mI (mset M 0 3 0) := hk.I hA0 hP hQ
  have q4 := hS.2.1.1
  have q5 := hS.2.2.1.1
  have q6 := hS.2.2.2.1
  have p4 := hS0.2.1.1
  have p5 := hS0.2.2.1.1
  have p6 := hS0.2.2.2.1
  refine z_aload_n (pc' := 1) X dX8_clearText_0 rfl rfl ?_
  refine z_iconst (pc' := 2) X dX8_clearText_1 rfl ?_
  refine z_mput (pc' := 5) X 10 3 rfl (by decide) q2073 rfl rfl rfl (by first | assumption | omega) dX8_clearText_2 rfl (fun hR2 => ?_)
  refine z_aload_n (pc' := 6) X dX8_clearText_5 rfl rfl ?_
  have hv6 := hR2 0 2
  refine z_mget (pc' := 9) X 9 rfl (by decide) q2072 rfl dX8_clearText_6 rfl ?_
  rw [mset_k (by decide)]
  rw [mset_k (by decide)] at hv6
  refine z_istore_n (pc' := 10) X dX8_clearText_9 rfl (by decide) rfl ?_
  dsimp only [List.set]
  refine z_aload_n (pc' := 11) X dX8_clearText_10 rfl rfl ?_
  refine z_iconst (pc' := 12) X dX8_clearText_11 rfl ?_
  refine z_mput (pc' := 15) X 9 2 rfl (by decide) q2072 rfl rfl rfl (by first | assumption | omega) dX8_clearText_12 rfl (fun hR12 => ?_)
  refine z_iload_n (pc' := 16) X dX8_clearText_15 rfl rfl ?_
  refine z_ireturn X dX8_clearText_16 (Nat.le_refl _) (Nat.le_refl _) (fun _ hh => ⟨_, hh, _, rfl, ?_, ?_⟩)
  · first | assumption | omega
  · exact ⟨by rw [mset_k (by decide), mset_s], Or.inr ⟨rfl, hT.1, hA.text ⟨mset_s, by decide, fun i c hi => nomatch hi⟩ (fun q x y => by rw [mset_r x, mset_r x]) ⟨by rw [mset_k (by decide), mset_k (by decide)], by rw [mset_k (by decide), mset_k (by decide)]⟩⟩⟩
theorem Y_X8_sign : zYV yX8_sign cX8_sign 1 (some .int) 0 := ⟨⟨q2628, qs103, q132, q2629⟩, by decide +kernel, by decide⟩
set_option maxRecDepth 100000 in
theorem c_X8_sign (l : Launch) (g : zG) (ma : Nat → Nat) (M : MM) (p : Int) (tx : List Int) (ht : tRep M tx) (hp : M 0 5 = p ∧ 0 ≤ p ∧ p ≤ tx.length) (hk : ∀ c ∈ tx, 32 ≤ c ∧ c ≤ 126) : mFun l yX8_sign cX8_sign 1 (some .int) 1 [vR (ma 0)] g ma M (fun r => r = tS tx p) := by
  refine mFun.mk (L0 := [some (vR (ma 0))]) (by decide) rfl (Nat.le_of_ble_eq_true rfl) rfl (fun C h hg hl hR X => ?_)
  subst hg hl
  obtain ⟨hp1, hp2⟩ := hp
  have hl2 := ht.1
  have hl3 := ht.2.1
  have htb := tS_b hk hp2.1
  refine z_aload_n (pc' := 1) X dX8_sign_0 rfl rfl ?_
  have hv1 := hR 0 5
  refine z_mget (pc' := 4) X 12 rfl (by decide) q2075 rfl dX8_sign_1 rfl ?_
  rw [hp1]
  rw [hp1] at hv1
  refine z_aload_n (pc' := 5) X dX8_sign_4 rfl rfl ?_
  have hv5 := hR 0 2
  refine z_mget (pc' := 8) X 9 rfl (by decide) q2072 rfl dX8_sign_5 rfl ?_
  refine z_icmp_ge (tgt := 23) (pc' := 11) X (by first | assumption | omega) (by first | assumption | omega) dX8_sign_8 rfl (by decide) (fun c8 => ?_) (fun c8 => ?_)
  · refine z_iconst (pc' := 24) X dX8_sign_23 rfl ?_
    refine z_ireturn X dX8_sign_24 (Nat.le_refl _) (Nat.le_refl _) (fun _ hh => ⟨hh, _, rfl, ?_, ?_⟩)
    · first | assumption | omega
    · first | rfl | exact (tS_n (by omega)).symm
  · refine z_aload_n (pc' := 12) X dX8_sign_11 rfl rfl ?_
    refine z_mget (pc' := 15) X 8 rfl (by decide) q2071 rfl dX8_sign_12 rfl ?_
    refine z_aload_n (pc' := 16) X dX8_sign_15 rfl rfl ?_
    have hv16 := hR 0 5
    refine z_mget (pc' := 19) X 12 rfl (by decide) q2075 rfl dX8_sign_16 rfl ?_
    rw [hp1]
    rw [hp1] at hv16
    refine z_mld (pc' := 20) X (r := 7) (by decide) (show 0 ≤ _ ∧ _ < (60 : Int) by omega) dX8_sign_19 rfl (fun hv19 => ?_)
    have e19 := tS_at ht (p := p) (by omega)
    rw [e19]
    rw [e19] at hv19
    refine z_goto (tgt := 24) X dX8_sign_20 (by decide) ?_
    refine z_ireturn X dX8_sign_24 (Nat.le_refl _) (Nat.le_refl _) (fun _ hh => ⟨hh, _, rfl, ?_, ?_⟩)
    · first | assumption | omega
    · first | rfl | exact (tS_n (by omega)).symm
theorem Y_X8_takes : zYV yX8_takes cX8_takes 3 (some .boolean) 1 := ⟨⟨q2624, qs102, q132, q2625⟩, by decide +kernel, by decide⟩
set_option maxRecDepth 100000 in
theorem c_X8_takes (l : Launch) (g : zG) (ma : Nat → Nat) (M : MM) (c p : Int) (tx : List Int) (ht : tRep M tx) (hp : M 0 5 = p ∧ 0 ≤ p ∧ p ≤ tx.length) (hk : ∀ c ∈ tx, 32 ≤ c ∧ c ≤ 126) (hc : rng c) : mInt l yX8_takes cX8_takes 3 (some .boolean) 2 [vR (ma 0), vI c] g ma M (fun r M' => M' = mset M 0 5 (p + r) ∧ ((r = 1 ∧ tS tx p = c) ∨ (r = 0 ∧ tS tx p ≠ c))) := by
  refine mInt.mk (L0 := [some (vR (ma 0)), some (vI c), none]) (by decide) rfl (Nat.le_of_ble_eq_true rfl) rfl (fun C h hg hl hR X => ?_)
  subst hg hl
  obtain ⟨hp1, hp2⟩ := hp
  have hl2 := ht.1
  have hl3 := ht.2.1
  have htb := tS_b hk hp2.1
  refine z_aload_n (pc' := 1) X dX8_takes_0 rfl rfl ?_
  refine z_V_fun0 (pc' := 4) X rfl Y_X8_sign q2626 dX8_takes_1 rfl (by decide) (Nat.le_refl _) (Nat.le_refl _) (Nat.le_of_ble_eq_true rfl) (c_X8_sign _ _ _ M p tx ht ⟨hp1, hp2⟩ hk) (fun r1 hr1 hp1 => ?_)
  subst hp1
  refine z_iload_n (pc' := 5) X dX8_takes_4 rfl rfl ?_
  refine z_icmp_ne (tgt := 12) (pc' := 8) X (by first | assumption | omega) (by first | assumption | omega) dX8_takes_5 rfl (by decide) (fun c5 => ?_) (fun c5 => ?_)
  · refine z_iconst (pc' := 13) X dX8_takes_12 rfl ?_
    refine z_istore_n (pc' := 14) X dX8_takes_13 rfl (by decide) rfl ?_
    dsimp only [List.set]
    refine z_aload_n (pc' := 15) X dX8_takes_14 rfl rfl ?_
    refine z_dup (pc' := 16) X rfl dX8_takes_15 rfl ?_
    have hv16 := hR 0 5
    refine z_mget (pc' := 19) X 12 rfl (by decide) q2075 rfl dX8_takes_16 rfl ?_
    rw [hp1]
    rw [hp1] at hv16
    refine z_iload_n (pc' := 20) X dX8_takes_19 rfl rfl ?_
    refine z_if_eq (tgt := 27) (pc' := 23) X (by first | assumption | omega) dX8_takes_20 rfl (by decide) (fun c20 => ?_) (fun c20 => ?_)
    · refine z_iconst (pc' := 28) X dX8_takes_27 rfl ?_
      refine z_iadd (pc' := 29) X dX8_takes_28 rfl ?_
      refine z_mput (pc' := 32) X 12 5 rfl (by decide) q2075 rfl rfl rfl (by first | assumption | omega) dX8_takes_29 rfl (fun hR29 => ?_)
      refine z_iload_n (pc' := 33) X dX8_takes_32 rfl rfl ?_
      refine z_zreturn X dX8_takes_33 (by first | exact nar_0 | exact nar_1 | exact nar_b (by omega)) (Nat.le_refl _) (Nat.le_refl _) (fun _ hh => ⟨_, hh, _, rfl, ?_, ?_⟩)
      · first | assumption | omega
      · first
          | exact absurd c20 (by decide)
          | exact ⟨rfl, Or.inl ⟨rfl, c5⟩⟩
          | exact ⟨rfl, Or.inr ⟨rfl, c5⟩⟩
    · refine z_iconst (pc' := 24) X dX8_takes_23 rfl ?_
      refine z_goto (tgt := 28) X dX8_takes_24 (by decide) ?_
      refine z_iadd (pc' := 29) X dX8_takes_28 rfl ?_
      refine z_mput (pc' := 32) X 12 5 rfl (by decide) q2075 rfl rfl rfl (by first | assumption | omega) dX8_takes_29 rfl (fun hR29 => ?_)
      refine z_iload_n (pc' := 33) X dX8_takes_32 rfl rfl ?_
      refine z_zreturn X dX8_takes_33 (by first | exact nar_0 | exact nar_1 | exact nar_b (by omega)) (Nat.le_refl _) (Nat.le_refl _) (fun _ hh => ⟨_, hh, _, rfl, ?_, ?_⟩)
      · first | assumption | omega
      · first
          | exact absurd c20 (by decide)
          | exact ⟨rfl, Or.inl ⟨rfl, c5⟩⟩
          | exact ⟨rfl, Or.inr ⟨rfl, c5⟩⟩
  · refine z_iconst (pc' := 9) X dX8_takes_8 rfl ?_
    refine z_goto (tgt := 13) X dX8_takes_9 (by decide) ?_
    refine z_istore_n (pc' := 14) X dX8_takes_13 rfl (by decide) rfl ?_
    dsimp only [List.set]
    refine z_aload_n (pc' := 15) X dX8_takes_14 rfl rfl ?_
    refine z_dup (pc' := 16) X rfl dX8_takes_15 rfl ?_
    have hv16 := hR 0 5
    refine z_mget (pc' := 19) X 12 rfl (by decide) q2075 rfl dX8_takes_16 rfl ?_
    rw [hp1]
    rw [hp1] at hv16
    refine z_iload_n (pc' := 20) X dX8_takes_19 rfl rfl ?_
    refine z_if_eq (tgt := 27) (pc' := 23) X (by first | assumption | omega) dX8_takes_20 rfl (by decide) (fun c20 => ?_) (fun c20 => ?_)
    · refine z_iconst (pc' := 28) X dX8_takes_27 rfl ?_
      refine z_iadd (pc' := 29) X dX8_takes_28 rfl ?_
      refine z_mput (pc' := 32) X 12 5 rfl (by decide) q2075 rfl rfl rfl (by first | assumption | omega) dX8_takes_29 rfl (fun hR29 => ?_)
      refine z_iload_n (pc' := 33) X dX8_takes_32 rfl rfl ?_
      refine z_zreturn X dX8_takes_33 (by first | exact nar_0 | exact nar_1 | exact nar_b (by omega)) (Nat.le_refl _) (Nat.le_refl _) (fun _ hh => ⟨_, hh, _, rfl, ?_, ?_⟩)
      · first | assumption | omega
      · first
          | exact absurd c20 (by decide)
          | exact ⟨rfl, Or.inl ⟨rfl, c5⟩⟩
          | exact ⟨rfl, Or.inr ⟨rfl, c5⟩⟩
    · refine z_iconst (pc' := 24) X dX8_takes_23 rfl ?_
      refine z_goto (tgt := 28) X dX8_takes_24 (by decide) ?_
      refine z_iadd (pc' := 29) X dX8_takes_28 rfl ?_
      refine z_mput (pc' := 32) X 12 5 rfl (by decide) q2075 rfl rfl rfl (by first | assumption | omega) dX8_takes_29 rfl (fun hR29 => ?_)
      refine z_iload_n (pc' := 33) X dX8_takes_32 rfl rfl ?_
      refine z_zreturn X dX8_takes_33 (by first | exact nar_0 | exact nar_1 | exact nar_b (by omega)) (Nat.le_refl _) (Nat.le_refl _) (fun _ hh => ⟨_, hh, _, rfl, ?_, ?_⟩)
      · first | assumption | omega
      · first
          | exact absurd c20 (by decide)
          | exact ⟨rfl, Or.inl ⟨rfl, c5⟩⟩
          | exact ⟨rfl, Or.inr ⟨rfl, c5⟩⟩
theorem Y_X8_isTold : zYV yX8_isTold cX8_isTold 3 none 2 := ⟨⟨q2612, qs99, q132, q2613⟩, by decide +kernel, by decide⟩
set_option maxRecDepth 100000 in
theorem c_X8_isTold (l : Launch) (g : zG) (ma : Nat → Nat) (M : MM) (k v : Int) (hkk : 0 ≤ k ∧ k < 6) (hv : rng v) (hm : 0 ≤ M 0 6 ∧ M 0 6 ≤ 30) : mVoid l yX8_isTold cX8_isTold 3 1 [vR (ma 0), vI k, vI v] g ma M (fun M' => M' = mset M 8 (6 * M 0 6 + k) v) := by
  refine mVoid.mk (L0 := [some (vR (ma 0)), some (vI k), some (vI v)]) (by decide) rfl (Nat.le_of_ble_eq_true rfl) rfl (fun C h hg hl hR X => ?_)
  subst hg hl
  refine z_aload_n (pc' := 1) X dX8_isTold_0 rfl rfl ?_
  refine z_mget (pc' := 4) X 13 rfl (by decide) q2076 rfl dX8_isTold_1 rfl ?_
  refine z_bipush (pc' := 6) X dX8_isTold_4 rfl (by decide) ?_
  refine z_aload_n (pc' := 7) X dX8_isTold_6 rfl rfl ?_
  have hv7 := hR 0 6
  refine z_mget (pc' := 10) X 14 rfl (by decide) q2077 rfl dX8_isTold_7 rfl ?_
  refine z_imul (pc' := 11) X dX8_isTold_10 rfl ?_
  refine z_iload_n (pc' := 12) X dX8_isTold_11 rfl rfl ?_
  refine z_iadd (pc' := 13) X dX8_isTold_12 rfl ?_
  refine z_iload_n (pc' := 14) X dX8_isTold_13 rfl rfl ?_
  refine z_mst (pc' := 15) X (r := 8) (by decide) (show 0 ≤ _ ∧ _ < (186 : Int) by omega) (by first | assumption | omega) dX8_isTold_14 rfl (fun hR14 => ?_)
  refine z_return X dX8_isTold_15 (Nat.le_refl _) (Nat.le_refl _) (fun _ hh => ⟨_, hh, rfl, ?_⟩)
  · first | rfl | omega
theorem told5 {M : MM} {z k v : Int} : mset (mset M 0 5 z) 8 (6 * (mset M 0 5 z) 0 6 + k) v = mset (mset M 0 5 z) 8 (6 * M 0 6 + k) v := by rw [show (mset M 0 5 z) 0 6 = M 0 6 from mset_k (by decide)]
theorem Y_X8_isFigure : zYV yX8_isFigure cX8_isFigure 5 (some .boolean) 2 := ⟨⟨q2647, qs107, q132, q2648⟩, by decide +kernel, by decide⟩
set_option maxRecDepth 100000 in
theorem c_X8_isFigure (l : Launch) (g : zG) (ma : Nat → Nat) (M : MM) (k c p : Int) (tx : List Int) (ht : tRep M tx) (hp : M 0 5 = p ∧ 0 ≤ p ∧ p ≤ tx.length) (hk : ∀ c ∈ tx, 32 ≤ c ∧ c ≤ 126) (hc : rng c) (hm : 0 ≤ M 0 6 ∧ M 0 6 ≤ 30) (hkk : 0 ≤ k ∧ k < 6) : mInt l yX8_isFigure cX8_isFigure 5 (some .boolean) 2 [vR (ma 0), vI k, vI c] g ma M (fun r M' => M' = mset (mset M 0 5 (p + r)) 8 (6 * M 0 6 + k) (tS tx p - 48) ∧ ((r = 1 ∧ 0 ≤ tS tx p - 48 ∧ tS tx p - 48 ≤ c) ∨ (r = 0 ∧ ¬ (0 ≤ tS tx p - 48 ∧ tS tx p - 48 ≤ c)))) := by
  refine mInt.mk (L0 := [some (vR (ma 0)), some (vI k), some (vI c), none, none]) (by decide) rfl (Nat.le_of_ble_eq_true rfl) rfl (fun C h hg hl hR X => ?_)
  subst hg hl
  obtain ⟨hp1, hp2⟩ := hp
  have hl2 := ht.1
  have hl3 := ht.2.1
  have htb := tS_b hk hp2.1
  refine z_aload_n (pc' := 1) X dX8_isFigure_0 rfl rfl ?_
  refine z_V_fun0 (pc' := 4) X rfl Y_X8_sign q2626 dX8_isFigure_1 rfl (by decide) (Nat.le_refl _) (Nat.le_refl _) (Nat.le_of_ble_eq_true rfl) (c_X8_sign _ _ _ M p tx ht ⟨hp1, hp2⟩ hk) (fun r1 hr1 hp1 => ?_)
  subst hp1
  refine z_bipush (pc' := 6) X dX8_isFigure_4 rfl (by decide) ?_
  refine z_isub (pc' := 7) X dX8_isFigure_6 rfl ?_
  refine z_istore_n (pc' := 8) X dX8_isFigure_7 rfl (by decide) rfl ?_
  dsimp only [List.set]
  refine z_iload_n (pc' := 9) X dX8_isFigure_8 rfl rfl ?_
  refine z_iconst (pc' := 10) X dX8_isFigure_9 rfl ?_
  refine z_iload_n (pc' := 11) X dX8_isFigure_10 rfl rfl ?_
  refine z_S_fun3 (pc' := 14) X Y_X8_in q2123 dX8_isFigure_11 rfl (by decide) (Nat.le_refl _) (Nat.le_refl _) (Nat.le_of_ble_eq_true rfl) (fun h _ => c_X8_in _ _ _ _ _ _ (by first | assumption | omega) (by first | assumption | omega) (by first | assumption | omega)) (fun r11 hr11 hp11 => ?_)
  refine z_istore (pc' := 16) X dX8_isFigure_14 rfl (by decide) rfl ?_
  dsimp only [List.set]
  refine z_aload_n (pc' := 17) X dX8_isFigure_16 rfl rfl ?_
  refine z_dup (pc' := 18) X rfl dX8_isFigure_17 rfl ?_
  have hv18 := hR 0 5
  refine z_mget (pc' := 21) X 12 rfl (by decide) q2075 rfl dX8_isFigure_18 rfl ?_
  rw [hp1]
  rw [hp1] at hv18
  refine z_iload (pc' := 23) X dX8_isFigure_21 rfl rfl ?_
  refine z_if_eq (tgt := 30) (pc' := 26) X (by first | assumption | omega) dX8_isFigure_23 rfl (by decide) (fun c23 => ?_) (fun c23 => ?_)
  · refine z_iconst (pc' := 31) X dX8_isFigure_30 rfl ?_
    refine z_iadd (pc' := 32) X dX8_isFigure_31 rfl ?_
    refine z_mput (pc' := 35) X 12 5 rfl (by decide) q2075 rfl rfl rfl (by first | assumption | omega) dX8_isFigure_32 rfl (fun hR32 => ?_)
    refine z_aload_n (pc' := 36) X dX8_isFigure_35 rfl rfl ?_
    refine z_iload_n (pc' := 37) X dX8_isFigure_36 rfl rfl ?_
    refine z_iload_n (pc' := 38) X dX8_isFigure_37 rfl rfl ?_
    refine z_V_void2 (pc' := 41) X rfl Y_X8_isTold q2610 dX8_isFigure_38 rfl (by decide) (Nat.le_refl _) (Nat.le_refl _) (Nat.le_of_ble_eq_true rfl) (c_X8_isTold _ _ _ _ k _ hkk (by first | assumption | omega) (by rw [mset_k (by decide)]; exact hm)) (fun M38 hp38 hR38 => ?_)
    rw [told5] at hp38
    subst hp38
    refine z_iload (pc' := 43) X dX8_isFigure_41 rfl rfl ?_
    refine z_zreturn X dX8_isFigure_43 (by first | exact nar_0 | exact nar_1 | exact nar_b (by omega)) (Nat.le_refl _) (Nat.le_refl _) (fun _ hh => ⟨_, hh, _, rfl, ?_, ?_⟩)
    · first | assumption | omega
    · rcases (show r11 = 0 ∨ r11 = 1 by omega) with rfl | rfl <;> first | exact absurd c23 (by decide) | exact ⟨rfl, by omega⟩
  · refine z_iconst (pc' := 27) X dX8_isFigure_26 rfl ?_
    refine z_goto (tgt := 31) X dX8_isFigure_27 (by decide) ?_
    refine z_iadd (pc' := 32) X dX8_isFigure_31 rfl ?_
    refine z_mput (pc' := 35) X 12 5 rfl (by decide) q2075 rfl rfl rfl (by first | assumption | omega) dX8_isFigure_32 rfl (fun hR32 => ?_)
    refine z_aload_n (pc' := 36) X dX8_isFigure_35 rfl rfl ?_
    refine z_iload_n (pc' := 37) X dX8_isFigure_36 rfl rfl ?_
    refine z_iload_n (pc' := 38) X dX8_isFigure_37 rfl rfl ?_
    refine z_V_void2 (pc' := 41) X rfl Y_X8_isTold q2610 dX8_isFigure_38 rfl (by decide) (Nat.le_refl _) (Nat.le_refl _) (Nat.le_of_ble_eq_true rfl) (c_X8_isTold _ _ _ _ k _ hkk (by first | assumption | omega) (by rw [mset_k (by decide)]; exact hm)) (fun M38 hp38 hR38 => ?_)
    rw [told5] at hp38
    subst hp38
    refine z_iload (pc' := 43) X dX8_isFigure_41 rfl rfl ?_
    refine z_zreturn X dX8_isFigure_43 (by first | exact nar_0 | exact nar_1 | exact nar_b (by omega)) (Nat.le_refl _) (Nat.le_refl _) (fun _ hh => ⟨_, hh, _, rfl, ?_, ?_⟩)
    · first | assumption | omega
    · rcases (show r11 = 0 ∨ r11 = 1 by omega) with rfl | rfl <;> first | exact absurd c23 (by decide) | exact ⟨rfl, by omega⟩
theorem Y_X8_isSorted : zYV yX8_isSorted cX8_isSorted 3 (some .boolean) 1 := ⟨⟨q2651, qs108, q132, q2652⟩, by decide +kernel, by decide⟩
set_option maxRecDepth 100000 in
theorem c_X8_isSorted (l : Launch) (g : zG) (ma : Nat → Nat) (M : MM) (k p : Int) (tx : List Int) (ht : tRep M tx) (hp : M 0 5 = p ∧ 0 ≤ p ∧ p ≤ tx.length) (hk : ∀ c ∈ tx, 32 ≤ c ∧ c ≤ 126) (hm : 0 ≤ M 0 6 ∧ M 0 6 ≤ 30) (hkk : 0 ≤ k ∧ k < 6) : mInt l yX8_isSorted cX8_isSorted 3 (some .boolean) 2 [vR (ma 0), vI k] g ma M (fun r M' => M' = mset (mset M 0 5 (p + r)) 8 (6 * M 0 6 + k) (srt (tS tx p)) ∧ ((r = 1 ∧ srt (tS tx p) ≠ -1) ∨ (r = 0 ∧ srt (tS tx p) = -1))) := by
  refine mInt.mk (L0 := [some (vR (ma 0)), some (vI k), none]) (by decide) rfl (Nat.le_of_ble_eq_true rfl) rfl (fun C h hg hl hR X => ?_)
  subst hg hl
  obtain ⟨hp1, hp2⟩ := hp
  have hl2 := ht.1
  have hl3 := ht.2.1
  have htb := tS_b hk hp2.1
  refine z_aload_n (pc' := 1) X dX8_isSorted_0 rfl rfl ?_
  refine z_V_fun0 (pc' := 4) X rfl Y_X8_sign q2626 dX8_isSorted_1 rfl (by decide) (Nat.le_refl _) (Nat.le_refl _) (Nat.le_of_ble_eq_true rfl) (c_X8_sign _ _ _ M p tx ht ⟨hp1, hp2⟩ hk) (fun r1 hr1 hp1 => ?_)
  subst hp1
  refine z_S_fun1 (pc' := 7) X Y_X8_sortBy q2634 dX8_isSorted_4 rfl (by decide) (Nat.le_refl _) (Nat.le_refl _) (Nat.le_of_ble_eq_true rfl) (fun h _ => c_X8_sortBy _ _ _ _ (by first | assumption | omega)) (fun r4 hr4 hp4 => ?_)
  subst hp4
  change rng (srt (tS tx p)) at hr4
  refine (show ZP _ _ _ _ _ _ _ (vI (srt (tS tx p)) :: _) from ?_)
  refine z_istore_n (pc' := 8) X dX8_isSorted_7 rfl (by decide) rfl ?_
  dsimp only [List.set]
  refine z_aload_n (pc' := 9) X dX8_isSorted_8 rfl rfl ?_
  refine z_dup (pc' := 10) X rfl dX8_isSorted_9 rfl ?_
  have hv10 := hR 0 5
  refine z_mget (pc' := 13) X 12 rfl (by decide) q2075 rfl dX8_isSorted_10 rfl ?_
  rw [hp1]
  rw [hp1] at hv10
  refine z_iload_n (pc' := 14) X dX8_isSorted_13 rfl rfl ?_
  refine z_iconst (pc' := 15) X dX8_isSorted_14 rfl ?_
  refine z_icmp_ne (tgt := 22) (pc' := 18) X (by first | assumption | omega) (by first | assumption | omega) dX8_isSorted_15 rfl (by decide) (fun c15 => ?_) (fun c15 => ?_)
  · refine z_iconst (pc' := 23) X dX8_isSorted_22 rfl ?_
    refine z_iadd (pc' := 24) X dX8_isSorted_23 rfl ?_
    refine z_mput (pc' := 27) X 12 5 rfl (by decide) q2075 rfl rfl rfl (by first | assumption | omega) dX8_isSorted_24 rfl (fun hR24 => ?_)
    refine z_aload_n (pc' := 28) X dX8_isSorted_27 rfl rfl ?_
    refine z_iload_n (pc' := 29) X dX8_isSorted_28 rfl rfl ?_
    refine z_iload_n (pc' := 30) X dX8_isSorted_29 rfl rfl ?_
    refine z_V_void2 (pc' := 33) X rfl Y_X8_isTold q2610 dX8_isSorted_30 rfl (by decide) (Nat.le_refl _) (Nat.le_refl _) (Nat.le_of_ble_eq_true rfl) (c_X8_isTold _ _ _ _ k _ hkk (by first | assumption | omega) (by rw [mset_k (by decide)]; exact hm)) (fun M30 hp30 hR30 => ?_)
    rw [told5] at hp30
    subst hp30
    refine z_iload_n (pc' := 34) X dX8_isSorted_33 rfl rfl ?_
    refine z_iconst (pc' := 35) X dX8_isSorted_34 rfl ?_
    refine z_icmp_eq (tgt := 42) (pc' := 38) X (by first | assumption | omega) (by first | assumption | omega) dX8_isSorted_35 rfl (by decide) (fun c35 => ?_) (fun c35 => ?_)
    · refine z_iconst (pc' := 43) X dX8_isSorted_42 rfl ?_
      refine z_zreturn X dX8_isSorted_43 (by first | exact nar_0 | exact nar_1 | exact nar_b (by omega)) (Nat.le_refl _) (Nat.le_refl _) (fun _ hh => ⟨_, hh, _, rfl, ?_, ?_⟩)
      · first | assumption | omega
      · first
          | exact absurd c15 (fun q => absurd q c35)
          | exact absurd c35 c15
          | exact ⟨rfl, Or.inl ⟨rfl, c35⟩⟩
          | exact ⟨rfl, Or.inr ⟨rfl, c35⟩⟩
    · refine z_iconst (pc' := 39) X dX8_isSorted_38 rfl ?_
      refine z_goto (tgt := 43) X dX8_isSorted_39 (by decide) ?_
      refine z_zreturn X dX8_isSorted_43 (by first | exact nar_0 | exact nar_1 | exact nar_b (by omega)) (Nat.le_refl _) (Nat.le_refl _) (fun _ hh => ⟨_, hh, _, rfl, ?_, ?_⟩)
      · first | assumption | omega
      · first
          | exact absurd c15 (fun q => absurd q c35)
          | exact absurd c35 c15
          | exact ⟨rfl, Or.inl ⟨rfl, c35⟩⟩
          | exact ⟨rfl, Or.inr ⟨rfl, c35⟩⟩
  · refine z_iconst (pc' := 19) X dX8_isSorted_18 rfl ?_
    refine z_goto (tgt := 23) X dX8_isSorted_19 (by decide) ?_
    refine z_iadd (pc' := 24) X dX8_isSorted_23 rfl ?_
    refine z_mput (pc' := 27) X 12 5 rfl (by decide) q2075 rfl rfl rfl (by first | assumption | omega) dX8_isSorted_24 rfl (fun hR24 => ?_)
    refine z_aload_n (pc' := 28) X dX8_isSorted_27 rfl rfl ?_
    refine z_iload_n (pc' := 29) X dX8_isSorted_28 rfl rfl ?_
    refine z_iload_n (pc' := 30) X dX8_isSorted_29 rfl rfl ?_
    refine z_V_void2 (pc' := 33) X rfl Y_X8_isTold q2610 dX8_isSorted_30 rfl (by decide) (Nat.le_refl _) (Nat.le_refl _) (Nat.le_of_ble_eq_true rfl) (c_X8_isTold _ _ _ _ k _ hkk (by first | assumption | omega) (by rw [mset_k (by decide)]; exact hm)) (fun M30 hp30 hR30 => ?_)
    rw [told5] at hp30
    subst hp30
    refine z_iload_n (pc' := 34) X dX8_isSorted_33 rfl rfl ?_
    refine z_iconst (pc' := 35) X dX8_isSorted_34 rfl ?_
    refine z_icmp_eq (tgt := 42) (pc' := 38) X (by first | assumption | omega) (by first | assumption | omega) dX8_isSorted_35 rfl (by decide) (fun c35 => ?_) (fun c35 => ?_)
    · refine z_iconst (pc' := 43) X dX8_isSorted_42 rfl ?_
      refine z_zreturn X dX8_isSorted_43 (by first | exact nar_0 | exact nar_1 | exact nar_b (by omega)) (Nat.le_refl _) (Nat.le_refl _) (fun _ hh => ⟨_, hh, _, rfl, ?_, ?_⟩)
      · first | assumption | omega
      · first
          | exact absurd c15 (fun q => absurd q c35)
          | exact absurd c35 c15
          | exact ⟨rfl, Or.inl ⟨rfl, c35⟩⟩
          | exact ⟨rfl, Or.inr ⟨rfl, c35⟩⟩
    · refine z_iconst (pc' := 39) X dX8_isSorted_38 rfl ?_
      refine z_goto (tgt := 43) X dX8_isSorted_39 (by decide) ?_
      refine z_zreturn X dX8_isSorted_43 (by first | exact nar_0 | exact nar_1 | exact nar_b (by omega)) (Nat.le_refl _) (Nat.le_refl _) (fun _ hh => ⟨_, hh, _, rfl, ?_, ?_⟩)
      · first | assumption | omega
      · first
          | exact absurd c15 (fun q => absurd q c35)
          | exact absurd c35 c15
          | exact ⟨rfl, Or.inl ⟨rfl, c35⟩⟩
          | exact ⟨rfl, Or.inr ⟨rfl, c35⟩⟩
theorem Y_X8_times : zYV yX8_times cX8_times 2 (some .int) 0 := ⟨⟨q2639, qs105, q132, q2640⟩, by decide +kernel, by decide⟩
set_option maxRecDepth 100000 in
theorem c_X8_times (l : Launch) (g : zG) (ma : Nat → Nat) (M : MM) (p : Int) (tx : List Int) (ht : tRep M tx) (hp : M 0 5 = p ∧ 0 ≤ p ∧ p ≤ tx.length) (hk : ∀ c ∈ tx, 32 ≤ c ∧ c ≤ 126) : mInt l yX8_times cX8_times 2 (some .int) 2 [vR (ma 0)] g ma M (fun r M' => r = tmz tx p ∧ M' = mset M 0 5 (p + bit (0 < tmz tx p))) := by
  refine mInt.mk (L0 := [some (vR (ma 0)), none]) (by decide) rfl (Nat.le_of_ble_eq_true rfl) rfl (fun C h hg hl hR X => ?_)
  subst hg hl
  obtain ⟨hp1, hp2⟩ := hp
  have hl2 := ht.1
  have hl3 := ht.2.1
  have htb := tS_b hk hp2.1
  refine z_aload_n (pc' := 1) X dX8_times_0 rfl rfl ?_
  refine z_V_fun0 (pc' := 4) X rfl Y_X8_sign q2626 dX8_times_1 rfl (by decide) (Nat.le_refl _) (Nat.le_refl _) (Nat.le_of_ble_eq_true rfl) (c_X8_sign _ _ _ M p tx ht ⟨hp1, hp2⟩ hk) (fun r1 hr1 hp1 => ?_)
  subst hp1
  refine z_bipush (pc' := 6) X dX8_times_4 rfl (by decide) ?_
  refine z_bipush (pc' := 8) X dX8_times_6 rfl (by decide) ?_
  refine z_S_fun3 (pc' := 11) X Y_X8_in q2123 dX8_times_8 rfl (by decide) (Nat.le_refl _) (Nat.le_refl _) (Nat.le_of_ble_eq_true rfl) (fun h _ => c_X8_in _ _ _ _ _ _ (by first | assumption | omega) (by first | assumption | omega) (by first | assumption | omega)) (fun r8 hr8 hp8 => ?_)
  refine z_if_eq (tgt := 24) (pc' := 14) X (by first | assumption | omega) dX8_times_11 rfl (by decide) (fun c11 => ?_) (fun c11 => ?_)
  · refine z_iconst (pc' := 25) X dX8_times_24 rfl ?_
    refine z_istore_n (pc' := 26) X dX8_times_25 rfl (by decide) rfl ?_
    dsimp only [List.set]
    refine z_aload_n (pc' := 27) X dX8_times_26 rfl rfl ?_
    refine z_dup (pc' := 28) X rfl dX8_times_27 rfl ?_
    have hv28 := hR 0 5
    refine z_mget (pc' := 31) X 12 rfl (by decide) q2075 rfl dX8_times_28 rfl ?_
    rw [hp1]
    rw [hp1] at hv28
    refine z_iload_n (pc' := 32) X dX8_times_31 rfl rfl ?_
    refine z_if_le (tgt := 39) (pc' := 35) X (by first | assumption | omega) dX8_times_32 rfl (by decide) (fun c32 => ?_) (fun c32 => ?_)
    · refine z_iconst (pc' := 40) X dX8_times_39 rfl ?_
      refine z_iadd (pc' := 41) X dX8_times_40 rfl ?_
      refine z_mput (pc' := 44) X 12 5 rfl (by decide) q2075 rfl rfl rfl (by first | assumption | omega) dX8_times_41 rfl (fun hR41 => ?_)
      refine z_iload_n (pc' := 45) X dX8_times_44 rfl rfl ?_
      refine z_ireturn X dX8_times_45 (Nat.le_refl _) (Nat.le_refl _) (fun _ hh => ⟨_, hh, _, rfl, ?_, ?_⟩)
      · first | assumption | omega
      · have e0 : tmz tx p = (if 49 ≤ tS tx p ∧ tS tx p ≤ 57 then tS tx p - 48 else 0) := rfl
        first
          | (rw [e0, if_pos (by omega)]; unfold bit; rw [if_pos (by omega)]; exact ⟨rfl, rfl⟩)
          | (rw [e0, if_neg (by omega)]; unfold bit; rw [if_neg (by omega)]; exact ⟨rfl, rfl⟩)
          | omega
    · refine z_iconst (pc' := 36) X dX8_times_35 rfl ?_
      refine z_goto (tgt := 40) X dX8_times_36 (by decide) ?_
      refine z_iadd (pc' := 41) X dX8_times_40 rfl ?_
      refine z_mput (pc' := 44) X 12 5 rfl (by decide) q2075 rfl rfl rfl (by first | assumption | omega) dX8_times_41 rfl (fun hR41 => ?_)
      refine z_iload_n (pc' := 45) X dX8_times_44 rfl rfl ?_
      refine z_ireturn X dX8_times_45 (Nat.le_refl _) (Nat.le_refl _) (fun _ hh => ⟨_, hh, _, rfl, ?_, ?_⟩)
      · first | assumption | omega
      · have e0 : tmz tx p = (if 49 ≤ tS tx p ∧ tS tx p ≤ 57 then tS tx p - 48 else 0) := rfl
        first
          | (rw [e0, if_pos (by omega)]; unfold bit; rw [if_pos (by omega)]; exact ⟨rfl, rfl⟩)
          | (rw [e0, if_neg (by omega)]; unfold bit; rw [if_neg (by omega)]; exact ⟨rfl, rfl⟩)
          | omega
  · refine z_aload_n (pc' := 15) X dX8_times_14 rfl rfl ?_
    refine z_V_fun0 (pc' := 18) X rfl Y_X8_sign q2626 dX8_times_15 rfl (by decide) (Nat.le_refl _) (Nat.le_refl _) (Nat.le_of_ble_eq_true rfl) (c_X8_sign _ _ _ M p tx ht ⟨hp1, hp2⟩ hk) (fun r15 hr15 hp15 => ?_)
    subst hp15
    refine z_bipush (pc' := 20) X dX8_times_18 rfl (by decide) ?_
    refine z_isub (pc' := 21) X dX8_times_20 rfl ?_
    refine z_goto (tgt := 25) X dX8_times_21 (by decide) ?_
    refine z_istore_n (pc' := 26) X dX8_times_25 rfl (by decide) rfl ?_
    dsimp only [List.set]
    refine z_aload_n (pc' := 27) X dX8_times_26 rfl rfl ?_
    refine z_dup (pc' := 28) X rfl dX8_times_27 rfl ?_
    have hv28 := hR 0 5
    refine z_mget (pc' := 31) X 12 rfl (by decide) q2075 rfl dX8_times_28 rfl ?_
    rw [hp1]
    rw [hp1] at hv28
    refine z_iload_n (pc' := 32) X dX8_times_31 rfl rfl ?_
    refine z_if_le (tgt := 39) (pc' := 35) X (by first | assumption | omega) dX8_times_32 rfl (by decide) (fun c32 => ?_) (fun c32 => ?_)
    · refine z_iconst (pc' := 40) X dX8_times_39 rfl ?_
      refine z_iadd (pc' := 41) X dX8_times_40 rfl ?_
      refine z_mput (pc' := 44) X 12 5 rfl (by decide) q2075 rfl rfl rfl (by first | assumption | omega) dX8_times_41 rfl (fun hR41 => ?_)
      refine z_iload_n (pc' := 45) X dX8_times_44 rfl rfl ?_
      refine z_ireturn X dX8_times_45 (Nat.le_refl _) (Nat.le_refl _) (fun _ hh => ⟨_, hh, _, rfl, ?_, ?_⟩)
      · first | assumption | omega
      · have e0 : tmz tx p = (if 49 ≤ tS tx p ∧ tS tx p ≤ 57 then tS tx p - 48 else 0) := rfl
        first
          | (rw [e0, if_pos (by omega)]; unfold bit; rw [if_pos (by omega)]; exact ⟨rfl, rfl⟩)
          | (rw [e0, if_neg (by omega)]; unfold bit; rw [if_neg (by omega)]; exact ⟨rfl, rfl⟩)
          | omega
    · refine z_iconst (pc' := 36) X dX8_times_35 rfl ?_
      refine z_goto (tgt := 40) X dX8_times_36 (by decide) ?_
      refine z_iadd (pc' := 41) X dX8_times_40 rfl ?_
      refine z_mput (pc' := 44) X 12 5 rfl (by decide) q2075 rfl rfl rfl (by first | assumption | omega) dX8_times_41 rfl (fun hR41 => ?_)
      refine z_iload_n (pc' := 45) X dX8_times_44 rfl rfl ?_
      refine z_ireturn X dX8_times_45 (Nat.le_refl _) (Nat.le_refl _) (fun _ hh => ⟨_, hh, _, rfl, ?_, ?_⟩)
      · first | assumption | omega
      · have e0 : tmz tx p = (if 49 ≤ tS tx p ∧ tS tx p ≤ 57 then tS tx p - 48 else 0) := rfl
        first
          | (rw [e0, if_pos (by omega)]; unfold bit; rw [if_pos (by omega)]; exact ⟨rfl, rfl⟩)
          | (rw [e0, if_neg (by omega)]; unfold bit; rw [if_neg (by omega)]; exact ⟨rfl, rfl⟩)
          | omega
theorem Y_X8_clearsMix : zYV yX8_clearsMix cX8_clearsMix 3 none 1 := ⟨⟨q2620, qs101, q132, q2621⟩, by decide +kernel, by decide⟩
set_option maxRecDepth 100000 in
theorem c_X8_clearsMix (l : Launch) (g : zG) (ma : Nat → Nat) (M : MM) (dp : Int) (hdp : 0 ≤ dp ∧ dp ≤ 4) : mVoid l yX8_clearsMix cX8_clearsMix 3 1 [vR (ma 0), vI dp] g ma M (fun M' => M' = mfill M 9 (4 * dp) 4 0) := by
  refine mVoid.mk (L0 := [some (vR (ma 0)), some (vI dp), none]) (by decide) rfl (Nat.le_of_ble_eq_true rfl) rfl (fun C h hg hl hR X => ?_)
  subst hg hl
  refine z_iconst (pc' := 1) X dX8_clearsMix_0 rfl ?_
  refine z_istore_n (pc' := 2) X dX8_clearsMix_1 rfl (by decide) rfl ?_
  dsimp only [List.set]
  have loop2 : ∀ (N : Nat) (k : Int), (0 ≤ k ∧ k ≤ 4) → (4 - k).toNat < N → ZP C 3 (mF ma h (mfill M 9 (4 * dp) k 0)) 0 0 [some (vR (ma 0)), some (vI dp), some (vI k)] 2 [] := by
    intro N
    induction N with
    | zero => intro k hkk hN; exact absurd hN (Nat.not_lt_zero _)
    | succ N ih2 =>
      intro k hkk hN
      refine ZP.fact (P := mR (mfill M 9 (4 * dp) k 0)) (fun _ h => h.1.2.2.2) (fun hR2 => ?_)
      refine z_iload_n (pc' := 3) X dX8_clearsMix_2 rfl rfl ?_
      refine z_iconst (pc' := 4) X dX8_clearsMix_3 rfl ?_
      refine z_icmp_ge (tgt := 24) (pc' := 7) X (by first | assumption | omega) (by first | assumption | omega) dX8_clearsMix_4 rfl (by decide) (fun c4 => ?_) (fun c4 => ?_)
      · refine z_return X dX8_clearsMix_24 (Nat.le_refl _) (Nat.le_refl _) (fun _ hh => ⟨_, hh, rfl, ?_⟩)
        · rw [show k = 4 by omega]
      · refine z_aload_n (pc' := 8) X dX8_clearsMix_7 rfl rfl ?_
        refine z_mget (pc' := 11) X 15 rfl (by decide) q2078 rfl dX8_clearsMix_8 rfl ?_
        refine z_iconst (pc' := 12) X dX8_clearsMix_11 rfl ?_
        refine z_iload_n (pc' := 13) X dX8_clearsMix_12 rfl rfl ?_
        refine z_imul (pc' := 14) X dX8_clearsMix_13 rfl ?_
        refine z_iload_n (pc' := 15) X dX8_clearsMix_14 rfl rfl ?_
        refine z_iadd (pc' := 16) X dX8_clearsMix_15 rfl ?_
        refine z_iconst (pc' := 17) X dX8_clearsMix_16 rfl ?_
        refine z_mst (pc' := 18) X (r := 9) (by decide) (show 0 ≤ _ ∧ _ < (20 : Int) by omega) (by first | assumption | omega) dX8_clearsMix_17 rfl (fun hR17 => ?_)
        refine z_iinc (pc' := 21) X dX8_clearsMix_18 rfl (by decide) rfl rfl ?_
        dsimp only [List.set]
        refine z_goto (tgt := 2) X dX8_clearsMix_21 (by decide) ?_
        rw [mfill_s (by omega)]
        refine ZP.wk (L' := [some (vR (ma 0)), some (vI dp), some (vI _)]) (And.intro rfl (And.intro rfl (And.intro rfl (trivial)))) ?_
        exact ih2 _ (by omega) (by omega)
  refine ZP.imp (Φ' := mF ma h (mfill M 9 (4 * dp) 0 0)) (fun _ hx => by rw [mfill_0]; exact hx) ?_
  refine ZP.wk (L' := [some (vR (ma 0)), some (vI dp), some (vI _)]) (And.intro rfl (And.intro rfl (And.intro rfl (trivial)))) ?_
  exact loop2 _ _ (by decide) (Nat.lt_succ_self _)
end M17

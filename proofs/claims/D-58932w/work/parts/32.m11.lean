/-! THE MODEL: calls that change the mill, 2 -/
section M11
def gStp (S : St) (v t : Int) : Int := if ¬ (0 ≤ v ∧ v ≤ 2) then 1 else if ¬ (1 ≤ t ∧ t ≤ 24) then 2 else if 0 < S.1 (117 + 3 * v) ∧ S.1 (117 + 3 * v + 1) + t ≤ 48 then 0 else 3
def stpS (v t : Int) (S : St) : St := (iup S.1 (117 + 3 * v + 1) (S.1 (117 + 3 * v + 1) + t), S.2)
def gDra (S : St) (v : Int) : Int := if ¬ (0 ≤ v ∧ v ≤ 2) then 1 else if S.1 (117 + 3 * v) = 0 then 2 else 0
def draS (v : Int) (S : St) : St := (iup (iup (iup S.1 (117 + 3 * v) 0) (117 + 3 * v + 1) 0) (117 + 3 * v + 2) 0, S.2)
def gMen (S : St) (m : Int) : Int := if ¬ (0 ≤ m ∧ m ≤ 4) then 1 else if S.1 1 < 30 then 2 else 0
def menS (m : Int) (S : St) : St := (iup (iup S.1 1 (S.1 1 - 30)) (126 + 3 * m + 1) 0, S.2)
def gSet (hi z : Int) : Int := if 0 ≤ z ∧ z ≤ hi then 0 else 1
def setS (w z : Int) (S : St) : St := (iup S.1 w z, S.2)
def rmL {α : Type} (l : List α) (i : Int) : List α := l.take i.toNat ++ l.drop (i.toNat + 1)
theorem rmL_at {α : Type} {l : List α} {i : Int} (h : 0 ≤ i ∧ i < l.length) : ∃ b, l[i.toNat]? = some b ∧ l = l.take i.toNat ++ b :: l.drop (i.toNat + 1) ∧ (l.take i.toNat).length = i.toNat := by
  have hl : i.toNat < l.length := by omega
  refine ⟨l[i.toNat], List.getElem?_eq_getElem hl, ?_, by rw [List.length_take]; omega⟩
  rw [List.getElem_cons_drop, List.take_append_drop]
def gBrn (S : St) (i : Int) : Int := if 0 ≤ i ∧ i < S.2.1.length then 0 else 1
def brnS (i : Int) (S : St) : St := (S.1, rmL S.2.1 i, S.2.2)
def atB (l : List Bl) (i : Int) : Bl := (l[i.toNat]?).getD (0, 0, 0, 0)
def whySS (S : St) (v m n : Int) : Int := if S.1 (117 + 3 * v) = 0 then 1 else if S.1 (117 + 3 * v) < n * mZ (m % 3) then 2 else if 2000 < S.1 (126 + 3 * m + 1) + n then 3 else if S.2.2.1.length = 12 then 4 else if ptsN S.1 v m < 30 then 5 else 0
theorem mWhyS_S {M : MM} {S : St} (h : sRep (M 1) S) {v m n : Int} (hv : 0 ≤ v ∧ v < 3) (hm : 0 ≤ m ∧ m < 5) : mWhyS M v m n = whySS S v m n := by
  obtain ⟨e1, -, -, e4, -, e6⟩ := mk_eq (n := n) h hv hm
  unfold mWhyS whySS
  rw [e1, e4, e6, h.2.2.1.1]
  by_cases h1 : S.2.2.1.length = 12
  · rw [if_pos h1, if_pos (by omega : (S.2.2.1.length : Int) = 12)]
  · rw [if_neg h1, if_neg (by omega : ¬ (S.2.2.1.length : Int) = 12)]
def gMak (S : St) (v m n : Int) : Int := if ¬ ((0 ≤ v ∧ v ≤ 2) ∧ (0 ≤ m ∧ m ≤ 4)) then 1 else if ¬ (1 ≤ n ∧ n ≤ 480) then 2 else if whySS S v m n = 0 then 0 else 3
def whyQS (S : St) (a b c : Int) : Int := if dryL a b c S.2.2.1 < 480 then 1 else if S.2.2.2.length = 30 then 2 else 0
def paperP (a b c : Int) : Prop := (0 ≤ a ∧ a ≤ 9) ∧ (0 ≤ b ∧ b ≤ 2) ∧ (0 ≤ c ∧ c ≤ 2)
def gPck (S : St) (a b c : Int) : Int := if ¬ ((0 ≤ a ∧ a ≤ 9) ∧ (0 ≤ b ∧ b ≤ 2) ∧ (0 ≤ c ∧ c ≤ 2)) then 1 else if whyQS S a b c = 0 then 0 else 2
def pckS (a b c q : Int) (S : St) : St := (S.1, S.2.1, packL a b c (q * 24) S.2.2.1, S.2.2.2 ++ [(a, b, c, q)])
def gSho (S : St) (a b c : Int) : Int := if ¬ ((0 ≤ a ∧ a ≤ 9) ∧ (0 ≤ b ∧ b ≤ 2) ∧ (0 ≤ c ∧ c ≤ 2)) then 1 else if S.2.2.2.length = 30 ∨ ¬ (1 ≤ dryL a b c S.2.2.1 / 24 ∧ dryL a b c S.2.2.1 / 24 ≤ 19) then 2 else 0
def tollQ (q : Bl) : Int := if q.2.2.2 < 20 then 2 else 4
def priceQ (q : Bl) : Int := mFull q.2.1 q.2.2.1 * q.2.2.2 / 20
def unitsQ (q : Bl) : Int := q.2.2.2 * 24 * mZ q.2.1
def gSnd (S : St) (c i : Int) : Int := if ¬ ((0 ≤ c ∧ c ≤ 3) ∧ (0 ≤ i ∧ i < S.2.2.2.length)) then 1 else if 300 < S.1 (13 + 2 * c) + tollQ (atB S.2.2.2 i) then 2 else 0
def sndS (c i : Int) (S : St) : St := (iup (iup (iup S.1 (13 + 2 * c) (S.1 (13 + 2 * c) + tollQ (atB S.2.2.2 i))) 1 (S.1 1 + priceQ (atB S.2.2.2 i))) 7 (S.1 7 + unitsQ (atB S.2.2.2 i)), S.2.1, S.2.2.1, rmL S.2.2.2 i)
def gPss (S : St) (n : Int) : Int := if ¬ (1 ≤ n ∧ n ≤ 20) then 1 else if S.1 0 + n ≤ 999 then 0 else 2
def gBea (S : St) (v n : Int) : Int := if ¬ (0 ≤ v ∧ v ≤ 2) then 1 else if ¬ (1 ≤ n ∧ n ≤ 200) then 2 else if whyBS S v n = 0 then 0 else 3
theorem packs_end {M M' : MM} {S : St} {a b c q r : Int} (h : sRep (M 1) S) (h6 : M 1 6 < 30)
    (hp : r = M 1 6 ∧ pRep (M' 1) (packL a b c (q * 24) S.2.2.1) ∧ (M' 1 6 = M 1 6 + 1 ∧ M' 1 (201 + 4 * M 1 6 + 0) = a ∧ M' 1 (201 + 4 * M 1 6 + 1) = b ∧ M' 1 (201 + 4 * M 1 6 + 2) = c ∧ M' 1 (201 + 4 * M 1 6 + 3) = q) ∧ (∀ j, (j < 141 ∨ 201 ≤ j) → j ≠ 5 → j ≠ 6 → (j < 201 + 4 * M 1 6 ∨ 201 + 4 * M 1 6 + 3 < j) → M' 1 j = M 1 j) ∧ ∀ q, q ≠ 1 → M' q = M q) :
    r = S.2.2.2.length ∧ sRep (M' 1) (pckS a b c q S) := by
  obtain ⟨hs, hb, hpp, hr⟩ := h
  obtain ⟨e1, e2, e3, e4, -⟩ := hp
  have h6' := hr.1
  rw [h6'] at e3 e4
  refine ⟨e1.trans h6', fun j hj => ?_, hb.same (e4 _ (by omega) (by omega) (by omega) (by omega)) (fun j x y => e4 _ (by omega) (by omega) (by omega) (by omega)), e2, hr.push (by omega) (by rw [h6']; exact e3.1) (fun j x y => e4 _ (by omega) (by omega) (by omega) (by omega)) e3.2⟩
  rw [e4 j (by unfold scI at hj; omega) (by unfold scI at hj; omega) (by unfold scI at hj; omega) (by unfold scI at hj; omega)]
  exact hs j hj
theorem beats_end {M M' : MM} {S : St} {v n r : Int} (h : sRep (M 1) S) (hk : ∀ b ∈ S.2.1, okB b) (hv : 0 ≤ v ∧ v < 3)
    (hp : r = 40 * n ∧ bRep (M' 1) (beatL (mShB M n 4 5) S.2.1) ∧ (M' 1 (117 + 3 * v) = 40 * n ∧ M' 1 (117 + 3 * v + 1) = 0 ∧ M' 1 (117 + 3 * v + 2) = mStr M n) ∧ (∀ j, (j < 21 ∨ 117 ≤ j) → j ≠ 4 → (j < 117 + 3 * v ∨ 117 + 3 * v + 2 < j) → M' 1 j = M 1 j) ∧ ∀ q, q ≠ 1 → q ≠ 5 → M' q = M q) :
    sRep (M' 1) (beatS v n S) := by
  obtain ⟨hs, hb, hpp, hr⟩ := h
  obtain ⟨-, e2, ⟨e3, e4, e5⟩, e6, -⟩ := hp
  have eN : ∀ j, 8 ≤ j → j < 12 → M 1 j = S.1 j := fun j a b => hs j (by unfold scI; omega)
  have e5B : ∀ j, 0 ≤ j → j < 4 → mShB M n 4 5 j = mShare S.1 n j := fun j a b => by
    rw [← (mShare_c eN (n := n) (j := j) ⟨a, b⟩).1]
    unfold mShB
    rw [if_pos ⟨rfl, a, b⟩, if_pos b]
  have z4 : ∀ f : Int → Int, zsum f 4 = 0 + f 0 + f 1 + f 2 + f 3 := fun f => rfl
  refine ⟨fun j hj => ?_, ?_, hpp.same (e6 _ (by omega) (by omega) (by omega)) (fun j x y => e6 _ (by omega) (by omega) (by omega)), hr.same (e6 _ (by omega) (by omega) (by omega)) (fun j x y => e6 _ (by omega) (by omega) (by omega))⟩
  · show _ = iup (iup (iup S.1 _ _) _ _) _ _ j
    by_cases h2 : j = 117 + 3 * v + 2
    · subst h2
      rw [iup_s, e5]
      unfold mStr
      rw [z4, z4, e5B 0 (by omega) (by omega), e5B 1 (by omega) (by omega), e5B 2 (by omega) (by omega), e5B 3 (by omega) (by omega)]
    · rw [iup_n h2]
      by_cases h1 : j = 117 + 3 * v + 1
      · subst h1; rw [iup_s, e4]
      · rw [iup_n h1]
        by_cases h0 : j = 117 + 3 * v
        · subst h0; rw [iup_s, e3]
        · rw [iup_n h0, e6 j (by unfold scI at hj; omega) (by unfold scI at hj; omega) (by omega)]
          exact hs j hj
  · show bRep (M' 1) (beatL (mShare S.1 n) S.2.1)
    rw [← beatL_congr S.2.1 hk e5B]
    exact e2
theorem Y_X8_becomes : zYV yX8_becomes cX8_becomes 5 (some .int) 3 := ⟨⟨q2180, qs52, q132, q2181⟩, by decide +kernel, by decide⟩
set_option maxRecDepth 100000 in
theorem c_X8_becomes (l : Launch) (g : zG) (ma : Nat → Nat) (M : MM) (w z hi : Int) (A : Ab) (P Q : Int) (hw : w = 2 ∨ w = 3) (hz : rng z) (hhi : 0 ≤ hi ∧ hi ≤ 99) (hA : mRep M A) (hk : okA P Q A) (hP : P ≤ 900000) (hQ : Q ≤ 9000000) : mInt l yX8_becomes cX8_becomes 5 (some .int) 11 [vR (ma 0), vI w, vI z, vI hi] g ma M (fun r M' => outP (gSet hi z) A (A.1.1 w) (svA A (setS w z A.1)) r M') := by
  refine mInt.mk (L0 := [some (vR (ma 0)), some (vI w), some (vI z), some (vI hi), none]) (by decide) rfl (Nat.le_of_ble_eq_true rfl) rfl (fun C h hg hl hR X => ?_)
  subst hg hl
  obtain ⟨hS, hN, hH, hT⟩ := id hA
  obtain ⟨hkS, -, -, -⟩ := id hk
  obtain ⟨⟨kc1, -, kc3, kc4, kc5⟩, kb, kp, kq⟩ := id hkS
  have hI := hk.I hA hP hQ
  have hn := mI_n hI
  have hh0 : 0 ≤ M 0 0 ∧ M 0 0 ≤ 5 := ⟨by rw [hH.1]; omega, by rw [hH.1]; have := hH.2.1; omega⟩
  have s0 := sc_at hA (j := 0) (by unfold scI; omega)
  have s1 := sc_at hA (j := 1) (by unfold scI; omega)
  refine z_aload_n (pc' := 1) X dX8_becomes_0 rfl rfl ?_
  refine z_iload_n (pc' := 2) X dX8_becomes_1 rfl rfl ?_
  refine z_iconst (pc' := 3) X dX8_becomes_2 rfl ?_
  refine z_iload_n (pc' := 4) X dX8_becomes_3 rfl rfl ?_
  refine z_S_fun3 (pc' := 7) X Y_X8_in q2123 dX8_becomes_4 rfl (by decide) (Nat.le_refl _) (Nat.le_refl _) (Nat.le_of_ble_eq_true rfl) (fun h _ => c_X8_in _ _ _ _ _ _ (by first | assumption | omega) (by first | assumption | omega) (by first | assumption | omega)) (fun r4 hr4 hp4 => ?_)
  refine z_if_eq (tgt := 14) (pc' := 10) X (by first | assumption | omega) dX8_becomes_7 rfl (by decide) (fun c7 => ?_) (fun c7 => ?_)
  · refine z_iconst (pc' := 15) X dX8_becomes_14 rfl ?_
    refine z_mput (pc' := 18) X 10 3 rfl (by decide) q2073 rfl rfl rfl (by first | assumption | omega) dX8_becomes_15 rfl (fun hR15 => ?_)
    refine z_aload_n (pc' := 19) X dX8_becomes_18 rfl rfl ?_
    have hv19 := hR15 0 3
    refine z_mget (pc' := 22) X 10 rfl (by decide) q2073 rfl dX8_becomes_19 rfl ?_
    rw [mset_s]
    rw [mset_s] at hv19
    refine z_if_le (tgt := 27) (pc' := 25) X (by first | assumption | omega) dX8_becomes_22 rfl (by decide) (fun c22 => ?_) (fun c22 => ?_)
    · exact absurd c22 (by decide)
    · refine z_iconst (pc' := 26) X dX8_becomes_25 rfl ?_
      refine z_ireturn X dX8_becomes_26 (Nat.le_refl _) (Nat.le_refl _) (fun _ hh => ⟨_, hh, _, rfl, ?_, ?_⟩)
      · first | assumption | omega
      · refine ⟨?_, Or.inl ⟨?_, hA.num (by decide)⟩⟩
        · rw [mset_s]; unfold gSet; (repeat' split) <;> omega
        · unfold gSet; (repeat' split) <;> omega
  · refine z_iconst (pc' := 11) X dX8_becomes_10 rfl ?_
    refine z_goto (tgt := 15) X dX8_becomes_11 (by decide) ?_
    refine z_mput (pc' := 18) X 10 3 rfl (by decide) q2073 rfl rfl rfl (by first | assumption | omega) dX8_becomes_15 rfl (fun hR15 => ?_)
    refine z_aload_n (pc' := 19) X dX8_becomes_18 rfl rfl ?_
    have hv19 := hR15 0 3
    refine z_mget (pc' := 22) X 10 rfl (by decide) q2073 rfl dX8_becomes_19 rfl ?_
    rw [mset_s]
    rw [mset_s] at hv19
    refine z_if_le (tgt := 27) (pc' := 25) X (by first | assumption | omega) dX8_becomes_22 rfl (by decide) (fun c22 => ?_) (fun c22 => ?_)
    · refine z_aload_n (pc' := 28) X dX8_becomes_27 rfl rfl ?_
      refine z_V_void0 (pc' := 31) X rfl Y_X8_saves q2151 dX8_becomes_28 rfl (by decide) (Nat.le_refl _) (Nat.le_refl _) (Nat.le_of_ble_eq_true rfl) (c_X8_saves _ _ _ _ (by rw [mset_k (by decide)]; exact hh0)) (fun M28 hp28 hR28 => ?_)
      have hg28 := mThr hp28
      have hA2 := (hA.num (k := 3) (by decide)).saved hp28
      have hS2 := hA2.1
      refine z_aload_n (pc' := 32) X dX8_becomes_31 rfl rfl ?_
      refine z_mget (pc' := 35) X 0 rfl (by decide) q2063 rfl dX8_becomes_32 rfl ?_
      refine z_iload_n (pc' := 36) X dX8_becomes_35 rfl rfl ?_
      refine z_mld (pc' := 37) X (r := 1) (by decide) (show 0 ≤ _ ∧ _ < (321 : Int) by omega) dX8_becomes_36 rfl (fun hv36 => ?_)
      rw [hS2.1 w (by unfold scI; omega)]
      rw [hS2.1 w (by unfold scI; omega)] at hv36
      refine z_istore (pc' := 39) X dX8_becomes_37 rfl (by decide) rfl ?_
      dsimp only [List.set]
      refine z_aload_n (pc' := 40) X dX8_becomes_39 rfl rfl ?_
      refine z_mget (pc' := 43) X 0 rfl (by decide) q2063 rfl dX8_becomes_40 rfl ?_
      refine z_iload_n (pc' := 44) X dX8_becomes_43 rfl rfl ?_
      refine z_iload_n (pc' := 45) X dX8_becomes_44 rfl rfl ?_
      refine z_mst (pc' := 46) X (r := 1) (by decide) (show 0 ≤ _ ∧ _ < (321 : Int) by omega) (by first | assumption | omega) dX8_becomes_45 rfl (fun hR45 => ?_)
      refine z_iload (pc' := 48) X dX8_becomes_46 rfl rfl ?_
      refine z_ireturn X dX8_becomes_48 (Nat.le_refl _) (Nat.le_refl _) (fun _ hh => ⟨_, hh, _, rfl, ?_, ?_⟩)
      · first | assumption | omega
      · have hg0 : gSet hi z = 0 := by unfold gSet; rw [if_pos (by omega)]
        rw [hg0]
        have hX := hS2.set (j := w) (z := z) (show scI w by unfold scI; omega)
        exact ⟨by rw [mset_r (by decide), hg28], Or.inr ⟨rfl, rfl, hA2.row hX (fun q hq => mset_r hq)⟩⟩
    · exact absurd c22 (by decide)
theorem Y_X8_setLimit : zYV yX8_setLimit cX8_setLimit 2 (some .int) 1 := ⟨⟨q2175, q2176, q132, q2177⟩, by decide +kernel, by decide⟩
set_option maxRecDepth 100000 in
theorem c_X8_setLimit (l : Launch) (g : zG) (ma : Nat → Nat) (M : MM) (z : Int) (A : Ab) (P Q : Int) (hz : rng z) (hA : mRep M A) (hk : okA P Q A) (hP : P ≤ 900000) (hQ : Q ≤ 9000000) : mInt l yX8_setLimit cX8_setLimit 2 (some .int) 12 [vR (ma 0), vI z] g ma M (fun r M' => outP (gSet 99 z) A (A.1.1 3) (svA A (setS 3 z A.1)) r M') := by
  refine mInt.mk (L0 := [some (vR (ma 0)), some (vI z)]) (by decide) rfl (Nat.le_of_ble_eq_true rfl) rfl (fun C h hg hl hR X => ?_)
  subst hg hl
  refine z_aload_n (pc' := 1) X dX8_setLimit_0 rfl rfl ?_
  refine z_iconst (pc' := 2) X dX8_setLimit_1 rfl ?_
  refine z_iload_n (pc' := 3) X dX8_setLimit_2 rfl rfl ?_
  refine z_bipush (pc' := 5) X dX8_setLimit_3 rfl (by decide) ?_
  refine z_V_int3 (pc' := 8) X rfl Y_X8_becomes q2178 dX8_setLimit_5 rfl (by decide) (Nat.le_refl _) (Nat.le_refl _) (Nat.le_of_ble_eq_true rfl) (c_X8_becomes _ _ _ _ 3 z 99 A P Q (by decide) hz (by decide) hA hk hP hQ) (fun r5 M5 hr5 hp5 hR5 => ?_)
  refine z_ireturn X dX8_setLimit_8 (Nat.le_refl _) (Nat.le_refl _) (fun _ hh => ⟨_, hh, _, rfl, ?_, ?_⟩)
  · first | assumption | omega
  · exact hp5
theorem Y_X8_setStove : zYV yX8_setStove cX8_setStove 2 (some .int) 1 := ⟨⟨q2183, q2184, q132, q2185⟩, by decide +kernel, by decide⟩
set_option maxRecDepth 100000 in
theorem c_X8_setStove (l : Launch) (g : zG) (ma : Nat → Nat) (M : MM) (z : Int) (A : Ab) (P Q : Int) (hz : rng z) (hA : mRep M A) (hk : okA P Q A) (hP : P ≤ 900000) (hQ : Q ≤ 9000000) : mInt l yX8_setStove cX8_setStove 2 (some .int) 12 [vR (ma 0), vI z] g ma M (fun r M' => outP (gSet 3 z) A (A.1.1 2) (svA A (setS 2 z A.1)) r M') := by
  refine mInt.mk (L0 := [some (vR (ma 0)), some (vI z)]) (by decide) rfl (Nat.le_of_ble_eq_true rfl) rfl (fun C h hg hl hR X => ?_)
  subst hg hl
  refine z_aload_n (pc' := 1) X dX8_setStove_0 rfl rfl ?_
  refine z_iconst (pc' := 2) X dX8_setStove_1 rfl ?_
  refine z_iload_n (pc' := 3) X dX8_setStove_2 rfl rfl ?_
  refine z_iconst (pc' := 4) X dX8_setStove_3 rfl ?_
  refine z_V_int3 (pc' := 7) X rfl Y_X8_becomes q2178 dX8_setStove_4 rfl (by decide) (Nat.le_refl _) (Nat.le_refl _) (Nat.le_of_ble_eq_true rfl) (c_X8_becomes _ _ _ _ 2 z 3 A P Q (by decide) hz (by decide) hA hk hP hQ) (fun r4 M4 hr4 hp4 hR4 => ?_)
  refine z_ireturn X dX8_setStove_7 (Nat.le_refl _) (Nat.le_refl _) (fun _ hh => ⟨_, hh, _, rfl, ?_, ?_⟩)
  · first | assumption | omega
  · exact hp4
theorem Y_X8_burn : zYV yX8_burn cX8_burn 3 (some .int) 1 := ⟨⟨q2199, q2200, q132, q2201⟩, by decide +kernel, by decide⟩
set_option maxRecDepth 100000 in
theorem c_X8_burn (l : Launch) (g : zG) (ma : Nat → Nat) (M : MM) (i : Int) (A : Ab) (P Q : Int) (hi : rng i) (hA : mRep M A) (hk : okA P Q A) (hP : P ≤ 900000) (hQ : Q ≤ 9000000) : mInt l yX8_burn cX8_burn 3 (some .int) 12 [vR (ma 0), vI i] g ma M (fun r M' => outP (gBrn A.1 i) A ((atB A.1.2.1 i).2.1) (svA A (brnS i A.1)) r M') := by
  refine mInt.mk (L0 := [some (vR (ma 0)), some (vI i), none]) (by decide) rfl (Nat.le_of_ble_eq_true rfl) rfl (fun C h hg hl hR X => ?_)
  subst hg hl
  obtain ⟨hS, hN, hH, hT⟩ := id hA
  obtain ⟨hkS, -, -, -⟩ := id hk
  obtain ⟨⟨kc1, -, kc3, kc4, kc5⟩, kb, kp, kq⟩ := id hkS
  have hI := hk.I hA hP hQ
  have hn := mI_n hI
  have hh0 : 0 ≤ M 0 0 ∧ M 0 0 ≤ 5 := ⟨by rw [hH.1]; omega, by rw [hH.1]; have := hH.2.1; omega⟩
  have s0 := sc_at hA (j := 0) (by unfold scI; omega)
  have s1 := sc_at hA (j := 1) (by unfold scI; omega)
  refine z_aload_n (pc' := 1) X dX8_burn_0 rfl rfl ?_
  refine z_aload_n (pc' := 2) X dX8_burn_1 rfl rfl ?_
  refine z_iload_n (pc' := 3) X dX8_burn_2 rfl rfl ?_
  refine z_V_fun1 (pc' := 6) X rfl Y_X8_isBale q2190 dX8_burn_3 rfl (by decide) (Nat.le_refl _) (Nat.le_refl _) (Nat.le_of_ble_eq_true rfl) (c_X8_isBale _ _ _ _ _ (by first | assumption | omega) (by first | assumption | omega)) (fun r3 hr3 hp3 => ?_)
  refine z_if_eq (tgt := 13) (pc' := 9) X (by first | assumption | omega) dX8_burn_6 rfl (by decide) (fun c6 => ?_) (fun c6 => ?_)
  · refine z_iconst (pc' := 14) X dX8_burn_13 rfl ?_
    refine z_mput (pc' := 17) X 10 3 rfl (by decide) q2073 rfl rfl rfl (by first | assumption | omega) dX8_burn_14 rfl (fun hR14 => ?_)
    refine z_aload_n (pc' := 18) X dX8_burn_17 rfl rfl ?_
    have hv18 := hR14 0 3
    refine z_mget (pc' := 21) X 10 rfl (by decide) q2073 rfl dX8_burn_18 rfl ?_
    rw [mset_s]
    rw [mset_s] at hv18
    refine z_if_le (tgt := 26) (pc' := 24) X (by first | assumption | omega) dX8_burn_21 rfl (by decide) (fun c21 => ?_) (fun c21 => ?_)
    · exact absurd c21 (by decide)
    · refine z_iconst (pc' := 25) X dX8_burn_24 rfl ?_
      refine z_ireturn X dX8_burn_25 (Nat.le_refl _) (Nat.le_refl _) (fun _ hh => ⟨_, hh, _, rfl, ?_, ?_⟩)
      · first | assumption | omega
      · have hl4 := hS.2.1.1
        refine ⟨?_, Or.inl ⟨?_, hA.num (by decide)⟩⟩
        · rw [mset_s]; unfold gBrn; (repeat' split) <;> omega
        · unfold gBrn; (repeat' split) <;> omega
  · refine z_iconst (pc' := 10) X dX8_burn_9 rfl ?_
    refine z_goto (tgt := 14) X dX8_burn_10 (by decide) ?_
    refine z_mput (pc' := 17) X 10 3 rfl (by decide) q2073 rfl rfl rfl (by first | assumption | omega) dX8_burn_14 rfl (fun hR14 => ?_)
    refine z_aload_n (pc' := 18) X dX8_burn_17 rfl rfl ?_
    have hv18 := hR14 0 3
    refine z_mget (pc' := 21) X 10 rfl (by decide) q2073 rfl dX8_burn_18 rfl ?_
    rw [mset_s]
    rw [mset_s] at hv18
    refine z_if_le (tgt := 26) (pc' := 24) X (by first | assumption | omega) dX8_burn_21 rfl (by decide) (fun c21 => ?_) (fun c21 => ?_)
    · refine z_aload_n (pc' := 27) X dX8_burn_26 rfl rfl ?_
      refine z_V_void0 (pc' := 30) X rfl Y_X8_saves q2151 dX8_burn_27 rfl (by decide) (Nat.le_refl _) (Nat.le_refl _) (Nat.le_of_ble_eq_true rfl) (c_X8_saves _ _ _ _ (by rw [mset_k (by decide)]; exact hh0)) (fun M27 hp27 hR27 => ?_)
      have hg27 := mThr hp27
      have hA2 := (hA.num (k := 3) (by decide)).saved hp27
      have hS2 := hA2.1
      obtain ⟨b, hbi, hbs, hbl⟩ := rmL_at (l := A.1.2.1) (i := i) (by have := hS.2.1.1; omega)
      have hb27 : bRep (M27 1) (A.1.2.1.take i.toNat ++ b :: A.1.2.1.drop (i.toNat + 1)) := by rw [← hbs]; exact hS2.2.1
      have hlT : (((A.1.2.1.take i.toNat).length : Nat) : Int) = i := by rw [hbl]; omega
      obtain ⟨⟨b0, b1, b2, b3⟩, bd1, bd2, bd3⟩ := hb27.hd
      rw [hlT] at b0 b1 b2 b3 bd1
      refine z_aload_n (pc' := 31) X dX8_burn_30 rfl rfl ?_
      refine z_iload_n (pc' := 32) X dX8_burn_31 rfl rfl ?_
      refine z_iconst (pc' := 33) X dX8_burn_32 rfl ?_
      refine z_V_fun2 (pc' := 36) X rfl Y_X8_bale q2194 dX8_burn_33 rfl (by decide) (Nat.le_refl _) (Nat.le_refl _) (Nat.le_of_ble_eq_true rfl) (c_X8_bale _ _ _ _ _ _ (by first | assumption | omega) (by first | assumption | omega)) (fun r33 hr33 hp33 => ?_)
      subst hp33
      rw [b1]
      rw [b1] at hr33
      refine z_istore_n (pc' := 37) X dX8_burn_36 rfl (by decide) rfl ?_
      dsimp only [List.set]
      refine z_aload_n (pc' := 38) X dX8_burn_37 rfl rfl ?_
      refine z_bipush (pc' := 40) X dX8_burn_38 rfl (by decide) ?_
      refine z_iconst (pc' := 41) X dX8_burn_40 rfl ?_
      refine z_iload_n (pc' := 42) X dX8_burn_41 rfl rfl ?_
      refine z_iconst (pc' := 43) X dX8_burn_42 rfl ?_
      refine z_V_void4 (pc' := 46) X rfl Y_X8_takesOut q2202 dX8_burn_43 rfl (by decide) (Nat.le_refl _) (Nat.le_refl _) (Nat.le_of_ble_eq_true rfl) (c_X8_takesOut_b _ _ _ _ i ⟨by omega, bd1⟩ bd2) (fun M43 hp43 hR43 => ?_)
      rw [← hlT] at hp43
      refine z_iload_n (pc' := 47) X dX8_burn_46 rfl rfl ?_
      refine z_ireturn X dX8_burn_47 (Nat.le_refl _) (Nat.le_refl _) (fun _ hh => ⟨_, hh, _, rfl, ?_, ?_⟩)
      · first | assumption | omega
      · have hg0 : gBrn A.1 i = 0 := by unfold gBrn; rw [if_pos (by have := hS.2.1.1; omega)]
        rw [hg0]
        have eb : atB A.1.2.1 i = b := by unfold atB; rw [hbi]; rfl
        refine ⟨by rw [hp43, (bRep.out hb27).2.2 0 (by decide), hg27], Or.inr ⟨rfl, ?_, ?_⟩⟩
        · rw [eb]
        · rw [hp43]
          have ho := hb27.out
          refine hA2.row ⟨fun j hj => ?_, ho.1, ?_, ?_⟩ ho.2.2
          · rw [ho.2.1 j (by unfold scI at hj; omega) (by unfold scI at hj; omega)]; exact hS2.1 j hj
          · exact hS2.2.2.1.same (ho.2.1 _ (by omega) (by omega)) (fun j x y => ho.2.1 _ (by omega) (by omega))
          · exact hS2.2.2.2.same (ho.2.1 _ (by omega) (by omega)) (fun j x y => ho.2.1 _ (by omega) (by omega))
    · exact absurd c21 (by decide)
theorem Y_X8_beat : zYV yX8_beat cX8_beat 3 (some .int) 2 := ⟨⟨q2207, q2208, q132, q2209⟩, by decide +kernel, by decide⟩
set_option maxRecDepth 100000 in
theorem c_X8_beat (l : Launch) (g : zG) (ma : Nat → Nat) (M : MM) (v n : Int) (A : Ab) (P Q : Int) (hv : rng v) (hn : rng n) (hA : mRep M A) (hk : okA P Q A) (hP : P ≤ 900000) (hQ : Q ≤ 9000000) : mInt l yX8_beat cX8_beat 3 (some .int) 12 [vR (ma 0), vI v, vI n] g ma M (fun r M' => outP (gBea A.1 v n) A (40 * n) (svA A (beatS v n A.1)) r M') := by
  refine mInt.mk (L0 := [some (vR (ma 0)), some (vI v), some (vI n)]) (by decide) rfl (Nat.le_of_ble_eq_true rfl) rfl (fun C h hg hl hR X => ?_)
  subst hg hl
  obtain ⟨hS, hN, hH, hT⟩ := id hA
  obtain ⟨hkS, -, -, -⟩ := id hk
  obtain ⟨⟨kc1, -, kc3, kc4, kc5⟩, kb, kp, kq⟩ := id hkS
  have hI := hk.I hA hP hQ
  have hn := mI_n hI
  have hh0 : 0 ≤ M 0 0 ∧ M 0 0 ≤ 5 := ⟨by rw [hH.1]; omega, by rw [hH.1]; have := hH.2.1; omega⟩
  have s0 := sc_at hA (j := 0) (by unfold scI; omega)
  have s1 := sc_at hA (j := 1) (by unfold scI; omega)
  refine z_aload_n (pc' := 1) X dX8_beat_0 rfl rfl ?_
  refine z_iload_n (pc' := 2) X dX8_beat_1 rfl rfl ?_
  refine z_S_fun1 (pc' := 5) X Y_X8_isVat q2210 dX8_beat_2 rfl (by decide) (Nat.le_refl _) (Nat.le_refl _) (Nat.le_of_ble_eq_true rfl) (fun h _ => c_X8_isVat _ _ _ _ (by first | assumption | omega)) (fun r2 hr2 hp2 => ?_)
  refine z_if_ne (tgt := 12) (pc' := 8) X (by first | assumption | omega) dX8_beat_5 rfl (by decide) (fun c5 => ?_) (fun c5 => ?_)
  · refine z_iload_n (pc' := 13) X dX8_beat_12 rfl rfl ?_
    refine z_S_fun1 (pc' := 16) X Y_X8_isPounds q2213 dX8_beat_13 rfl (by decide) (Nat.le_refl _) (Nat.le_refl _) (Nat.le_of_ble_eq_true rfl) (fun h _ => c_X8_isPounds _ _ _ _ (by first | assumption | omega)) (fun r13 hr13 hp13 => ?_)
    refine z_if_ne (tgt := 23) (pc' := 19) X (by first | assumption | omega) dX8_beat_16 rfl (by decide) (fun c16 => ?_) (fun c16 => ?_)
    · refine z_aload_n (pc' := 24) X dX8_beat_23 rfl rfl ?_
      refine z_iload_n (pc' := 25) X dX8_beat_24 rfl rfl ?_
      refine z_iload_n (pc' := 26) X dX8_beat_25 rfl rfl ?_
      refine z_V_int2 (pc' := 29) X rfl Y_X8_whyNoBeating q2216 dX8_beat_26 rfl (by decide) (Nat.le_refl _) (Nat.le_refl _) (Nat.le_of_ble_eq_true rfl) (c_X8_whyNoBeating _ _ _ _ _ _ (by first | assumption | omega) (by first | assumption | omega) (by first | assumption | omega)) (fun r26 M26 hr26 hp26 hR26 => ?_)
      obtain ⟨hw26, hq26⟩ := hp26
      have hA26 : mRep M26 A := hA.row5 hq26
      rw [mWhyB_S hS (by omega)] at hw26
      have hh26 : 0 ≤ M26 0 0 ∧ M26 0 0 ≤ 5 := by rw [hq26 0 (by decide)]; exact hh0
      refine z_if_ne (tgt := 36) (pc' := 32) X (by first | assumption | omega) dX8_beat_29 rfl (by decide) (fun c29 => ?_) (fun c29 => ?_)
      · refine z_iconst (pc' := 37) X dX8_beat_36 rfl ?_
        refine z_mput (pc' := 40) X 10 3 rfl (by decide) q2073 rfl rfl rfl (by first | assumption | omega) dX8_beat_37 rfl (fun hR37 => ?_)
        refine z_aload_n (pc' := 41) X dX8_beat_40 rfl rfl ?_
        have hv41 := hR37 0 3
        refine z_mget (pc' := 44) X 10 rfl (by decide) q2073 rfl dX8_beat_41 rfl ?_
        rw [mset_s]
        rw [mset_s] at hv41
        refine z_if_le (tgt := 49) (pc' := 47) X (by first | assumption | omega) dX8_beat_44 rfl (by decide) (fun c44 => ?_) (fun c44 => ?_)
        · exact absurd c44 (by decide)
        · refine z_iconst (pc' := 48) X dX8_beat_47 rfl ?_
          refine z_ireturn X dX8_beat_48 (Nat.le_refl _) (Nat.le_refl _) (fun _ hh => ⟨_, hh, _, rfl, ?_, ?_⟩)
          · first | assumption | omega
          · refine ⟨?_, Or.inl ⟨?_, by first | exact hA.num (by decide) | exact hA26.num (by decide)⟩⟩
            · rw [mset_s]; unfold gBea; (repeat' split) <;> omega
            · unfold gBea; (repeat' split) <;> omega
      · refine z_iconst (pc' := 33) X dX8_beat_32 rfl ?_
        refine z_goto (tgt := 37) X dX8_beat_33 (by decide) ?_
        refine z_mput (pc' := 40) X 10 3 rfl (by decide) q2073 rfl rfl rfl (by first | assumption | omega) dX8_beat_37 rfl (fun hR37 => ?_)
        refine z_aload_n (pc' := 41) X dX8_beat_40 rfl rfl ?_
        have hv41 := hR37 0 3
        refine z_mget (pc' := 44) X 10 rfl (by decide) q2073 rfl dX8_beat_41 rfl ?_
        rw [mset_s]
        rw [mset_s] at hv41
        refine z_if_le (tgt := 49) (pc' := 47) X (by first | assumption | omega) dX8_beat_44 rfl (by decide) (fun c44 => ?_) (fun c44 => ?_)
        · refine z_aload_n (pc' := 50) X dX8_beat_49 rfl rfl ?_
          refine z_V_void0 (pc' := 53) X rfl Y_X8_saves q2151 dX8_beat_50 rfl (by decide) (Nat.le_refl _) (Nat.le_refl _) (Nat.le_of_ble_eq_true rfl) (c_X8_saves _ _ _ _ (by rw [mset_k (by decide)]; exact hh26)) (fun M50 hp50 hR50 => ?_)
          have hg50 := mThr hp50
          have hA2 := (hA26.num (k := 3) (by decide)).saved hp50
          have hS2 := hA2.1
          have hk50 : okA P Q (svA A A.1) := svA_ok hk hkS
          refine z_aload_n (pc' := 54) X dX8_beat_53 rfl rfl ?_
          refine z_iload_n (pc' := 55) X dX8_beat_54 rfl rfl ?_
          refine z_iload_n (pc' := 56) X dX8_beat_55 rfl rfl ?_
          refine z_V_int2 (pc' := 59) X rfl Y_X8_beats q2236 dX8_beat_56 rfl (by decide) (Nat.le_refl _) (Nat.le_refl _) (Nat.le_of_ble_eq_true rfl) (c_X8_beats _ _ _ _ v n A.1.2.1 (by omega) (by omega) (okA.I (P := P) (Q := Q) hk50 hA2 hP hQ) hS2.2.1) (fun r56 M56 hr56 hp56 hR56 => ?_)
          refine z_ireturn X dX8_beat_59 (Nat.le_refl _) (Nat.le_refl _) (fun _ hh => ⟨_, hh, _, rfl, ?_, ?_⟩)
          · first | assumption | omega
          · have hg0 : gBea A.1 v n = 0 := by unfold gBea; rw [if_neg (by omega), if_neg (by omega), if_pos (by omega)]
            rw [hg0]
            have hX := beats_end hS2 kb (by omega) hp56
            obtain ⟨f1, f2, f3, f4, f5⟩ := hp56
            exact ⟨by rw [f5 0 (by decide) (by decide), hg50], Or.inr ⟨rfl, f1, hA2.gen hX (by rw [f5 0 (by decide) (by decide)]; exact ⟨rfl, rfl, rfl⟩) (f5 2 (by decide) (by decide)) (f5 3 (by decide) (by decide)) (f5 7 (by decide) (by decide))⟩⟩
        · exact absurd c44 (by decide)
    · refine z_iconst (pc' := 20) X dX8_beat_19 rfl ?_
      refine z_goto (tgt := 37) X dX8_beat_20 (by decide) ?_
      refine z_mput (pc' := 40) X 10 3 rfl (by decide) q2073 rfl rfl rfl (by first | assumption | omega) dX8_beat_37 rfl (fun hR37 => ?_)
      refine z_aload_n (pc' := 41) X dX8_beat_40 rfl rfl ?_
      have hv41 := hR37 0 3
      refine z_mget (pc' := 44) X 10 rfl (by decide) q2073 rfl dX8_beat_41 rfl ?_
      rw [mset_s]
      rw [mset_s] at hv41
      refine z_if_le (tgt := 49) (pc' := 47) X (by first | assumption | omega) dX8_beat_44 rfl (by decide) (fun c44 => ?_) (fun c44 => ?_)
      · exact absurd c44 (by decide)
      · refine z_iconst (pc' := 48) X dX8_beat_47 rfl ?_
        refine z_ireturn X dX8_beat_48 (Nat.le_refl _) (Nat.le_refl _) (fun _ hh => ⟨_, hh, _, rfl, ?_, ?_⟩)
        · first | assumption | omega
        · refine ⟨?_, Or.inl ⟨?_, by first | exact hA.num (by decide) | exact hA26.num (by decide)⟩⟩
          · rw [mset_s]; unfold gBea; (repeat' split) <;> omega
          · unfold gBea; (repeat' split) <;> omega
  · refine z_iconst (pc' := 9) X dX8_beat_8 rfl ?_
    refine z_goto (tgt := 37) X dX8_beat_9 (by decide) ?_
    refine z_mput (pc' := 40) X 10 3 rfl (by decide) q2073 rfl rfl rfl (by first | assumption | omega) dX8_beat_37 rfl (fun hR37 => ?_)
    refine z_aload_n (pc' := 41) X dX8_beat_40 rfl rfl ?_
    have hv41 := hR37 0 3
    refine z_mget (pc' := 44) X 10 rfl (by decide) q2073 rfl dX8_beat_41 rfl ?_
    rw [mset_s]
    rw [mset_s] at hv41
    refine z_if_le (tgt := 49) (pc' := 47) X (by first | assumption | omega) dX8_beat_44 rfl (by decide) (fun c44 => ?_) (fun c44 => ?_)
    · exact absurd c44 (by decide)
    · refine z_iconst (pc' := 48) X dX8_beat_47 rfl ?_
      refine z_ireturn X dX8_beat_48 (Nat.le_refl _) (Nat.le_refl _) (fun _ hh => ⟨_, hh, _, rfl, ?_, ?_⟩)
      · first | assumption | omega
      · refine ⟨?_, Or.inl ⟨?_, by first | exact hA.num (by decide) | exact hA26.num (by decide)⟩⟩
        · rw [mset_s]; unfold gBea; (repeat' split) <;> omega
        · unfold gBea; (repeat' split) <;> omega
end M11

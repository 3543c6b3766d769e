/-! THE MODEL: doing a text's parts -/
section M24
def recS (w : Wk) (S : St) : St := (iup (iup (iup (iup (iup S.1 8 w.2.1) 9 w.2.2.1) 10 w.2.2.2.1) 11 w.2.2.2.2.1) 12 w.2.2.2.2.2, S.2)
/-- a part done: whether it was possible, the mill behind -/
def doW (w : Wk) (S : St) : Int × St :=
  if w.1 = 61 then (1, recS w S)
  else if w.1 = 98 then (if whyBS S w.2.1 w.2.2.1 = 0 then (1, beatS w.2.1 w.2.2.1 S) else (0, S))
  else if w.1 = 100 then (if whyInS S w.2.1 w.2.2.2.1 w.2.2.2.2.1 = 0 then (1, delS w.2.1 w.2.2.1 w.2.2.2.1 w.2.2.2.2.1 S) else (0, S))
  else if w.1 = 109 then (if whySS S w.2.1 w.2.2.1 w.2.2.2.1 = 0 then (1, makeS w.2.1 w.2.2.1 w.2.2.2.1 S) else (0, S))
  else if w.1 = 115 then (if 0 < S.1 (117 + 3 * w.2.1) ∧ S.1 (117 + 3 * w.2.1 + 1) + w.2.2.1 ≤ 48 then (1, stpS w.2.1 w.2.2.1 S) else (0, S))
  else (if S.1 0 + w.2.1 ≤ 999 then (1, nightN w.2.1.toNat S) else (0, S))
def ageS (S : St) : Prop := ∀ b ∈ S.2.2.1, b.2.2.2.2 ≤ S.1 0
def okG (P Q : Int) (S : St) : Prop := okS 999 P Q S ∧ ageS S
theorem okG.of {D P Q : Int} {S : St} (h : okS D P Q S) (ha : ageS S) (hd : S.1 0 ≤ 999) : okG P Q S := by
  obtain ⟨⟨⟨a0, a1⟩, a2⟩, kb, kp, kq⟩ := h
  exact ⟨⟨⟨⟨⟨a0.1, hd⟩, a1⟩, a2⟩, kb, fun b hb => ⟨(kp b hb).1, (kp b hb).2.1, (kp b hb).2.2.1, (kp b hb).2.2.2.1, (kp b hb).2.2.2.2.1, Int.le_trans (ha b hb) hd⟩, kq⟩, ha⟩
theorem nightS_age {S : St} (h : ageS S) : ageS (nightS S) := fun b hb => by
  obtain ⟨a, ha, rfl⟩ := List.mem_map.mp hb
  show a.2.2.2.2 + 1 ≤ S.1 0 + 1
  have := h a ha
  omega
theorem nightN_age {S : St} (h : ageS S) : ∀ n : Nat, ageS (nightN n S) ∧ (nightN n S).1 0 = S.1 0 + n
  | 0 => ⟨h, by show S.1 0 = S.1 0 + ((0 : Nat) : Int); omega⟩
  | n + 1 => by
    obtain ⟨a, b⟩ := nightN_age h n
    refine ⟨nightS_age a, ?_⟩
    show (nightN n S).1 0 + 1 = _
    omega
theorem nLost_nn {D P Q : Int} {S : St} (h : okS D P Q S) : 0 ≤ nLost S := by
  exact (rotN_b (nWet_ok h.1.1.2.2.1.1 h.2.1).2.2).1
theorem nLostN_nn {D P Q : Int} {S : St} (h : okS D P Q S) : ∀ n : Nat, 0 ≤ nLostN n S
  | 0 => Int.le_refl _
  | n + 1 => by
    have a := nLostN_nn h n
    have b := nLost_nn (nightN_ok h n)
    show 0 ≤ nLostN n S + nLost (nightN n S)
    omega
theorem n17_b {n x : Int} (hn : 0 ≤ n) (hx : 0 ≤ x ∧ x ≤ 17) : 0 ≤ n * x ∧ n * x ≤ 17 * n := by
  refine ⟨Int.mul_nonneg hn hx.1, ?_⟩
  have := Int.mul_le_mul_of_nonneg_left hx.2 hn
  omega
theorem mkN_b {f : Int → Int} {D P Q v m n : Int} (h : okSc D P Q f) (hv : 0 ≤ v ∧ v ≤ 2) (hm : 0 ≤ m ∧ m ≤ 4) (hn : 1 ≤ n ∧ n ≤ 480) (hp : 30 ≤ ptsN f v m) : 0 ≤ mkSomeN f v m n ∧ mkSomeN f v m n ≤ n ∧ 0 ≤ mkAllN f v m n := by
  have a := h.2.2.2.1 v hv.1 (by omega)
  have b := h.2.2.2.2 m hm.1 (by omega)
  have hx : 0 ≤ (100 - ptsN f v m) / 4 ∧ (100 - ptsN f v m) / 4 ≤ 17 := by
    have : ptsN f v m ≤ 100 := by unfold ptsN; split <;> omega
    omega
  have c := n17_b (n := n) (by omega) hx
  unfold mkSomeN mkAllN
  omega
theorem makeS_ok {P Q v m n : Int} {S : St} (h : okS 999 P Q S) (hv : 0 ≤ v ∧ v ≤ 2) (hm : 0 ≤ m ∧ m ≤ 4) (hn : 1 ≤ n ∧ n ≤ 480) (hy : whySS S v m n = 0) : okS 999 P Q (makeS v m n S) := by
  obtain ⟨k, kb, kp, kq⟩ := h
  have y : S.1 (117 + 3 * v) ≠ 0 ∧ n * mZ (m % 3) ≤ S.1 (117 + 3 * v) ∧ S.1 (126 + 3 * m + 1) + n ≤ 2000 ∧ 30 ≤ ptsN S.1 v m := by
    unfold whySS at hy
    (repeat' split at hy) <;> omega
  have a := k.2.2.2.1 v hv.1 (by omega)
  have b := k.2.2.2.2 m hm.1 (by omega)
  have c := mkN_b k hv hm hn y.2.2.2
  have hz : 0 ≤ mkSomeN S.1 v m n * mZ (m % 3) ∧ mkSomeN S.1 v m n * mZ (m % 3) ≤ S.1 (117 + 3 * v) := by
    have q := y.2.1
    have z0 : 0 ≤ mZ (m % 3) := by unfold mZ; (repeat' split) <;> decide
    have q2 := Int.mul_le_mul_of_nonneg_right c.2.1 z0
    exact ⟨Int.mul_nonneg c.1 z0, by omega⟩
  have JV : ∀ j z : Int, (117 ≤ j ∧ j < 126) → (∀ w, 0 ≤ w → w < 3 → (j = 117 + 3 * w → 0 ≤ z ∧ z ≤ 8000) ∧ (j = 117 + 3 * w + 1 → 0 ≤ z ∧ z ≤ 48) ∧ (j = 117 + 3 * w + 2 → 0 ≤ z ∧ z ≤ 60)) → okJ 999 P Q j z := fun j z hj hw =>
    ⟨by omega, by omega, by omega, by omega, by omega, by omega, fun d x y => ⟨by omega, by omega⟩, hw, fun v x y => ⟨by omega, by omega, by omega⟩⟩
  have JM : ∀ j z : Int, (126 ≤ j ∧ j < 141) → (∀ w, 0 ≤ w → w < 5 → (j = 126 + 3 * w → 0 ≤ z ∧ z ≤ 9) ∧ (j = 126 + 3 * w + 1 → 0 ≤ z ∧ z ≤ 2000) ∧ (j = 126 + 3 * w + 2 → 0 ≤ z ∧ z ≤ 99)) → okJ 999 P Q j z := fun j z hj hw =>
    ⟨by omega, by omega, by omega, by omega, by omega, by omega, fun d x y => ⟨by omega, by omega⟩, fun v x y => ⟨by omega, by omega, by omega⟩, hw⟩
  have k1 : okSc 999 P Q (mkF1 S.1 v m n) := ((k.up (JM _ _ (by omega) fun w x y => ⟨by omega, by omega, by omega⟩)).up (JM _ _ (by omega) fun w x y => ⟨by omega, by omega, by omega⟩)).up (JV _ _ (by omega) fun w x y => ⟨by omega, by omega, by omega⟩)
  have k2 : okSc 999 P Q (mkF S.1 v m n) := by
    unfold mkF
    split
    · exact ((k1.up (JV _ _ (by omega) fun w x y => ⟨by omega, by omega, by omega⟩)).up (JV _ _ (by omega) fun w x y => ⟨by omega, by omega, by omega⟩)).up (JV _ _ (by omega) fun w x y => ⟨by omega, by omega, by omega⟩)
    · exact k1
  refine ⟨k2, kb, fun q hq => ?_, kq⟩
  have hq : q ∈ (if 0 < mkSomeN S.1 v m n then S.2.2.1 ++ [(S.1 (126 + 3 * m), m % 3, mkGr (ptsN S.1 v m), mkSomeN S.1 v m n, 0)] else S.2.2.1) := hq
  split at hq
  · rcases List.mem_append.mp hq with e | e
    · exact kp q e
    · rw [List.mem_singleton.mp e]
      have hg : 0 ≤ mkGr (ptsN S.1 v m) ∧ mkGr (ptsN S.1 v m) ≤ 2 := by unfold mkGr; (repeat' split) <;> decide
      exact ⟨b.1, by show 0 ≤ m % 3 ∧ m % 3 ≤ 2; omega, hg, by show 0 ≤ mkSomeN S.1 v m n ∧ mkSomeN S.1 v m n ≤ 480; omega, by show (0 : Int) ≤ 0 ∧ (0 : Int) ≤ 999; decide⟩
  · exact kp q hq
theorem makeS_0 {v m n : Int} {S : St} (hv : 0 ≤ v) (hm : 0 ≤ m) : (makeS v m n S).1 0 = S.1 0 := by
  show mkF S.1 v m n 0 = S.1 0
  have e1 : mkF1 S.1 v m n 0 = S.1 0 := by
    unfold mkF1
    rw [iup_n (by omega), iup_n (by omega), iup_n (by omega)]
  unfold mkF
  split
  · rw [iup_n (by omega), iup_n (by omega), iup_n (by omega), e1]
  · exact e1
theorem doW_ok {P Q : Int} {w : Wk} {S : St} (hw : okW w) (h : okG P Q S) : okG P Q (doW w S).2 := by
  obtain ⟨hk, ha⟩ := h
  unfold doW
  rcases hw with ⟨e, h1, h2, h3, h4, h5, h6⟩ | ⟨e, h1, h2⟩ | ⟨e, h1, h2, h3, h4⟩ | ⟨e, h1, h2, h3⟩ | ⟨e, h1⟩ | ⟨e, h1, h2⟩
  · rw [if_pos e]
    obtain ⟨⟨a0, a1, a2, a3, a4⟩, r⟩ := hk
    have o : ∀ j, (j < 8 ∨ 12 < j) → (recS w S).1 j = S.1 j := fun j hj => by
      show iup (iup (iup (iup (iup S.1 8 _) 9 _) 10 _) 11 _) 12 _ j = _
      rw [iup_n (by omega), iup_n (by omega), iup_n (by omega), iup_n (by omega), iup_n (by omega)]
    refine ⟨⟨⟨?_, ⟨h1, h2, h3, h4, h5, h6⟩, fun c x y => ?_, fun v x y => ?_, fun v x y => ?_⟩, r⟩, ha⟩
    · exact a0
    · rw [o _ (by omega), o _ (by omega)]; exact a2 c x y
    · rw [o _ (by omega), o _ (by omega), o _ (by omega)]; exact a3 v x y
    · rw [o _ (by omega), o _ (by omega), o _ (by omega)]; exact a4 v x y
  · rw [if_neg (by omega), if_pos e]
    split
    · exact ⟨beatS_ok hk h1 h2, fun b hb => by
        show b.2.2.2.2 ≤ iup (iup (iup S.1 (117 + 3 * w.2.1) _) _ _) _ _ 0
        rw [iup_n (by omega), iup_n (by omega), iup_n (by omega)]
        exact ha b hb⟩
    · exact ⟨hk, ha⟩
  · rw [if_neg (by omega), if_neg (by omega), if_pos e]
    split
    · exact ⟨delS_ok hk h1 h2 h3 h4 ‹_›, fun b hb => by
        show b.2.2.2.2 ≤ iup S.1 _ _ 0
        rw [iup_n (by omega)]
        exact ha b hb⟩
    · exact ⟨hk, ha⟩
  · rw [if_neg (by omega), if_neg (by omega), if_neg (by omega), if_pos e]
    split
    · refine ⟨makeS_ok hk h1 h2 h3 ‹_›, fun b hb => ?_⟩
      rw [makeS_0 h1.1 h2.1]
      have hb : b ∈ (if 0 < mkSomeN S.1 w.2.1 w.2.2.1 w.2.2.2.1 then S.2.2.1 ++ [(S.1 (126 + 3 * w.2.2.1), w.2.2.1 % 3, mkGr (ptsN S.1 w.2.1 w.2.2.1), mkSomeN S.1 w.2.1 w.2.2.1 w.2.2.2.1, 0)] else S.2.2.1) := hb
      split at hb
      · rcases List.mem_append.mp hb with q | q
        · exact ha b q
        · rw [List.mem_singleton.mp q]
          exact hk.1.1.1.1
      · exact ha b hb
    · exact ⟨hk, ha⟩
  · rw [if_neg (by omega), if_neg (by omega), if_neg (by omega), if_neg (by omega), if_neg (by omega)]
    split
    · have q := nightN_age ha w.2.1.toNat
      exact okG.of (nightN_ok hk w.2.1.toNat) q.1 (by rw [q.2]; omega)
    · exact ⟨hk, ha⟩
  · rw [if_neg (by omega), if_neg (by omega), if_neg (by omega), if_neg (by omega), if_pos e]
    split
    · rename_i h3
      exact ⟨stpS_ok hk h1 h2 h3.2, fun b hb => by
        show b.2.2.2.2 ≤ iup S.1 _ _ 0
        rw [iup_n (by omega)]
        exact ha b hb⟩
    · exact ⟨hk, ha⟩
theorem doW_0 {w : Wk} {S : St} : ((doW w S).1 = 0 ∧ (doW w S).2 = S) ∨ (doW w S).1 = 1 := by
  unfold doW
  (repeat' split) <;> first | exact Or.inr rfl | exact Or.inl ⟨rfl, rfl⟩
def doA : List Wk → St → Int × St
  | [], S => (0, S)
  | w :: t, S => if (doW w S).1 = 1 then ((doA t (doW w S).2).1 + 1, (doA t (doW w S).2).2) else (0, S)
theorem doA_c {w : Wk} {t : List Wk} {S : St} : doA (w :: t) S = if (doW w S).1 = 1 then ((doA t (doW w S).2).1 + 1, (doA t (doW w S).2).2) else (0, S) := rfl
end M24

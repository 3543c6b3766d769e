/-! LISTS in the model's row: bales, piles, reams -/
section MABS
abbrev Bl : Type := Int × Int × Int × Int
abbrev Pl : Type := Int × Int × Int × Int × Int
theorem mset_f {M : MM} {r : Nat} {k z : Int} : mset M r k z r = iup (M r) k z := if_pos rfl
theorem mTake_o {M : MM} {b w p c : Int} {r : Nat} {j : Int} (hr : r ≠ 1 ∨ ((j < b + w * p ∨ b + w * p + (w * (M 1 c - 1) - w * p) ≤ j) ∧ j ≠ c)) : mTake M b w p c r j = M r j := by
  unfold mTake
  rcases hr with h | h
  · rw [mdown_o (Or.inl h), mset_r h]
  · rw [mdown_o (Or.inr h.1), mset_n (Or.inr h.2)]
theorem app_at {α : Type} {D T : List α} {b : α} : (D ++ b :: T)[D.length]? = some b := by
  rw [List.getElem?_append_right (Nat.le_refl _), Nat.sub_self]
  rfl
def bRep (N : Int → Int) (bs : List Bl) : Prop := N 4 = bs.length ∧ bs.length ≤ 24 ∧ ∀ (i : Nat) (b : Bl), bs[i]? = some b → N (21 + 4 * (i : Int) + 0) = b.1 ∧ N (21 + 4 * (i : Int) + 1) = b.2.1 ∧ N (21 + 4 * (i : Int) + 2) = b.2.2.1 ∧ N (21 + 4 * (i : Int) + 3) = b.2.2.2
/-- elsewhere the row stays -/
def bO (N N' : Int → Int) : Prop := ∀ j, (j < 21 ∨ 117 ≤ j) → j ≠ 4 → N' j = N j
theorem bO.rf {N : Int → Int} : bO N N := fun _ _ _ => rfl
theorem bO.tr {N N' N'' : Int → Int} (h : bO N N') (h' : bO N' N'') : bO N N'' := fun j a c => (h' j a c).trans (h j a c)
theorem bRep.hd {M : MM} {D T : List Bl} {b : Bl} (h : bRep (M 1) (D ++ b :: T)) : (mB M D.length 0 = b.1 ∧ mB M D.length 1 = b.2.1 ∧ mB M D.length 2 = b.2.2.1 ∧ mB M D.length 3 = b.2.2.2) ∧ (D.length : Int) < M 1 4 ∧ M 1 4 ≤ 24 ∧ M 1 4 = D.length + 1 + T.length := by
  have h1 := h.2.2 D.length b app_at
  have h2 := h.1
  have h3 := h.2.1
  rw [List.length_append, List.length_cons] at h2 h3
  exact ⟨h1, by omega, by omega, by omega⟩
theorem bRep.nil {M : MM} {D T : List Bl} {p : Int} (h : bRep (M 1) (D ++ T)) (hp : p = D.length) (hc : M 1 4 ≤ p) : T = [] := by
  have h2 := h.1
  rw [List.length_append] at h2
  cases T with
  | nil => rfl
  | cons b t => rw [List.length_cons] at h2; omega
theorem bRep.cons {M : MM} {D T : List Bl} {p : Int} (h : bRep (M 1) (D ++ T)) (hp : p = D.length) (hc : p < M 1 4) : ∃ b t, T = b :: t := by
  have h2 := h.1
  rw [List.length_append] at h2
  cases T with
  | nil => rw [List.length_nil] at h2; omega
  | cons b t => exact ⟨b, t, rfl⟩
theorem bRep.same {N N' : Int → Int} {bs : List Bl} (h : bRep N bs) (hc : N' 4 = N 4) (hs : ∀ j, 21 ≤ j → j < 117 → N' j = N j) : bRep N' bs := by
  refine ⟨by rw [hc]; exact h.1, h.2.1, fun i b hi => ?_⟩
  have hl : i < bs.length := (List.getElem?_eq_some_iff.mp hi).1
  have h2 := h.2.1
  have h3 := h.2.2 i b hi
  refine ⟨by rw [hs _ (by omega) (by omega)]; exact h3.1, by rw [hs _ (by omega) (by omega)]; exact h3.2.1, by rw [hs _ (by omega) (by omega)]; exact h3.2.2.1, by rw [hs _ (by omega) (by omega)]; exact h3.2.2.2⟩
theorem bRep.out {M : MM} {D T : List Bl} {b : Bl} (h : bRep (M 1) (D ++ b :: T)) : bRep (mTake M 21 4 D.length 4 1) (D ++ T) ∧ bO (M 1) (mTake M 21 4 D.length 4 1) ∧ ∀ r, r ≠ 1 → mTake M 21 4 D.length 4 r = M r := by
  obtain ⟨-, hd1, hd2, hd3⟩ := h.hd
  refine ⟨⟨?_, ?_, fun i c hi => ?_⟩, fun j hj hc => ?_, fun r hr => ?_⟩
  · unfold mTake
    rw [mdown_o (by omega), mset_s, List.length_append]
    omega
  · rw [List.length_append]; omega
  · have hl : i < (D ++ T).length := (List.getElem?_eq_some_iff.mp hi).1
    rw [List.length_append] at hl
    by_cases hlt : i < D.length
    · rw [List.getElem?_append_left hlt] at hi
      have h3 := h.2.2 i c (by rw [List.getElem?_append_left hlt]; exact hi)
      refine ⟨by rw [mTake_o (by omega)]; exact h3.1, by rw [mTake_o (by omega)]; exact h3.2.1, by rw [mTake_o (by omega)]; exact h3.2.2.1, by rw [mTake_o (by omega)]; exact h3.2.2.2⟩
    · rw [List.getElem?_append_right (by omega)] at hi
      have h3 := h.2.2 (i + 1) c (by rw [List.getElem?_append_right (by omega), show i + 1 - D.length = (i - D.length) + 1 by omega]; exact hi)
      have key : ∀ j : Int, 21 + 4 * (D.length : Int) ≤ j → j < 21 + 4 * (M 1 4 - 1) → mTake M 21 4 D.length 4 1 j = M 1 (j + 4) := by
        intro j h1 h2
        unfold mTake mdown
        rw [if_pos ⟨rfl, h1, by omega⟩, mset_n (Or.inr (by omega))]
      refine ⟨by rw [key _ (by omega) (by omega), show 21 + 4 * (i : Int) + 0 + 4 = 21 + 4 * ((i + 1 : Nat) : Int) + 0 by omega]; exact h3.1, by rw [key _ (by omega) (by omega), show 21 + 4 * (i : Int) + 1 + 4 = 21 + 4 * ((i + 1 : Nat) : Int) + 1 by omega]; exact h3.2.1, by rw [key _ (by omega) (by omega), show 21 + 4 * (i : Int) + 2 + 4 = 21 + 4 * ((i + 1 : Nat) : Int) + 2 by omega]; exact h3.2.2.1, by rw [key _ (by omega) (by omega), show 21 + 4 * (i : Int) + 3 + 4 = 21 + 4 * ((i + 1 : Nat) : Int) + 3 by omega]; exact h3.2.2.2⟩
  · exact mTake_o (by omega)
  · funext j
    exact mTake_o (Or.inl hr)
theorem bRep.rags {M : MM} {D T : List Bl} {b : Bl} {z : Int} (h : bRep (M 1) (D ++ b :: T)) : bRep (mset M 1 (21 + 4 * (D.length : Int) + 1) z 1) (D ++ (b.1, z, b.2.2.1, b.2.2.2) :: T) ∧ bO (M 1) (mset M 1 (21 + 4 * (D.length : Int) + 1) z 1) := by
  obtain ⟨-, hd1, hd2, hd3⟩ := h.hd
  refine ⟨⟨?_, ?_, fun i c hi => ?_⟩, fun j hj hc => mset_k (by omega)⟩
  · rw [mset_k (by omega), h.1, List.length_append, List.length_append]; rfl
  · have := h.2.1
    rw [List.length_append] at this ⊢; exact this
  · have hl : i < (D ++ (b.1, z, b.2.2.1, b.2.2.2) :: T).length := (List.getElem?_eq_some_iff.mp hi).1
    rw [List.length_append, List.length_cons] at hl
    by_cases hi0 : i = D.length
    · subst hi0
      rw [app_at] at hi
      cases hi
      have h3 := h.2.2 D.length b app_at
      refine ⟨by rw [mset_k (by omega)]; exact h3.1, mset_s, by rw [mset_k (by omega)]; exact h3.2.2.1, by rw [mset_k (by omega)]; exact h3.2.2.2⟩
    · have h3 : (D ++ b :: T)[i]? = some c := by
        by_cases hlt : i < D.length
        · rw [List.getElem?_append_left hlt] at hi ⊢; exact hi
        · rw [List.getElem?_append_right (by omega)] at hi ⊢
          rw [show i - D.length = (i - D.length - 1) + 1 by omega] at hi ⊢
          exact hi
      have h4 := h.2.2 i c h3
      refine ⟨by rw [mset_k (by omega)]; exact h4.1, by rw [mset_k (by omega)]; exact h4.2.1, by rw [mset_k (by omega)]; exact h4.2.2.1, by rw [mset_k (by omega)]; exact h4.2.2.2⟩
theorem bRep.damp {M : MM} {D T : List Bl} {b : Bl} {z : Int} (h : bRep (M 1) (D ++ b :: T)) : bRep (mset M 1 (21 + 4 * (D.length : Int) + 2) z 1) (D ++ (b.1, b.2.1, z, b.2.2.2) :: T) ∧ bO (M 1) (mset M 1 (21 + 4 * (D.length : Int) + 2) z 1) := by
  obtain ⟨-, hd1, hd2, hd3⟩ := h.hd
  refine ⟨⟨?_, ?_, fun i c hi => ?_⟩, fun j hj hc => mset_k (by omega)⟩
  · rw [mset_k (by omega), h.1, List.length_append, List.length_append]; rfl
  · have := h.2.1
    rw [List.length_append] at this ⊢; exact this
  · have hl : i < (D ++ (b.1, b.2.1, z, b.2.2.2) :: T).length := (List.getElem?_eq_some_iff.mp hi).1
    rw [List.length_append, List.length_cons] at hl
    by_cases hi0 : i = D.length
    · subst hi0
      rw [app_at] at hi
      cases hi
      have h3 := h.2.2 D.length b app_at
      refine ⟨by rw [mset_k (by omega)]; exact h3.1, by rw [mset_k (by omega)]; exact h3.2.1, mset_s, by rw [mset_k (by omega)]; exact h3.2.2.2⟩
    · have h3 : (D ++ b :: T)[i]? = some c := by
        by_cases hlt : i < D.length
        · rw [List.getElem?_append_left hlt] at hi ⊢; exact hi
        · rw [List.getElem?_append_right (by omega)] at hi ⊢
          rw [show i - D.length = (i - D.length - 1) + 1 by omega] at hi ⊢
          exact hi
      have h4 := h.2.2 i c h3
      refine ⟨by rw [mset_k (by omega)]; exact h4.1, by rw [mset_k (by omega)]; exact h4.2.1, by rw [mset_k (by omega)]; exact h4.2.2.1, by rw [mset_k (by omega)]; exact h4.2.2.2⟩
theorem bRep.wet {M : MM} {D T : List Bl} {b : Bl} {z : Int} (h : bRep (M 1) (D ++ b :: T)) : bRep (mset M 1 (21 + 4 * (D.length : Int) + 3) z 1) (D ++ (b.1, b.2.1, b.2.2.1, z) :: T) ∧ bO (M 1) (mset M 1 (21 + 4 * (D.length : Int) + 3) z 1) := by
  obtain ⟨-, hd1, hd2, hd3⟩ := h.hd
  refine ⟨⟨?_, ?_, fun i c hi => ?_⟩, fun j hj hc => mset_k (by omega)⟩
  · rw [mset_k (by omega), h.1, List.length_append, List.length_append]; rfl
  · have := h.2.1
    rw [List.length_append] at this ⊢; exact this
  · have hl : i < (D ++ (b.1, b.2.1, b.2.2.1, z) :: T).length := (List.getElem?_eq_some_iff.mp hi).1
    rw [List.length_append, List.length_cons] at hl
    by_cases hi0 : i = D.length
    · subst hi0
      rw [app_at] at hi
      cases hi
      have h3 := h.2.2 D.length b app_at
      refine ⟨by rw [mset_k (by omega)]; exact h3.1, by rw [mset_k (by omega)]; exact h3.2.1, by rw [mset_k (by omega)]; exact h3.2.2.1, mset_s⟩
    · have h3 : (D ++ b :: T)[i]? = some c := by
        by_cases hlt : i < D.length
        · rw [List.getElem?_append_left hlt] at hi ⊢; exact hi
        · rw [List.getElem?_append_right (by omega)] at hi ⊢
          rw [show i - D.length = (i - D.length - 1) + 1 by omega] at hi ⊢
          exact hi
      have h4 := h.2.2 i c h3
      refine ⟨by rw [mset_k (by omega)]; exact h4.1, by rw [mset_k (by omega)]; exact h4.2.1, by rw [mset_k (by omega)]; exact h4.2.2.1, by rw [mset_k (by omega)]; exact h4.2.2.2⟩
theorem bRep.push {N N' : Int → Int} {bs : List Bl} {s0 s1 s2 s3 : Int} (h : bRep N bs) (hl : bs.length < 24) (hc : N' 4 = N 4 + 1) (hs : ∀ j, 21 ≤ j → j < 21 + 4 * (bs.length : Int) → N' j = N j) (hn : N' (21 + 4 * (bs.length : Int) + 0) = s0 ∧ N' (21 + 4 * (bs.length : Int) + 1) = s1 ∧ N' (21 + 4 * (bs.length : Int) + 2) = s2 ∧ N' (21 + 4 * (bs.length : Int) + 3) = s3) : bRep N' (bs ++ [(s0, s1, s2, s3)]) := by
  refine ⟨by rw [hc, h.1, List.length_append]; rfl, by rw [List.length_append]; exact hl, fun i c hi => ?_⟩
  have hlt : i < (bs ++ [(s0, s1, s2, s3)]).length := (List.getElem?_eq_some_iff.mp hi).1
  rw [List.length_append] at hlt
  simp only [List.length_cons, List.length_nil] at hlt
  by_cases h0 : i < bs.length
  · rw [List.getElem?_append_left h0] at hi
    have h4 := h.2.2 i c hi
    refine ⟨by rw [hs _ (by omega) (by omega)]; exact h4.1, by rw [hs _ (by omega) (by omega)]; exact h4.2.1, by rw [hs _ (by omega) (by omega)]; exact h4.2.2.1, by rw [hs _ (by omega) (by omega)]; exact h4.2.2.2⟩
  · obtain rfl : i = bs.length := by omega
    rw [app_at (T := [])] at hi
    cases hi
    exact hn
def pRep (N : Int → Int) (bs : List Pl) : Prop := N 5 = bs.length ∧ bs.length ≤ 12 ∧ ∀ (i : Nat) (b : Pl), bs[i]? = some b → N (141 + 5 * (i : Int) + 0) = b.1 ∧ N (141 + 5 * (i : Int) + 1) = b.2.1 ∧ N (141 + 5 * (i : Int) + 2) = b.2.2.1 ∧ N (141 + 5 * (i : Int) + 3) = b.2.2.2.1 ∧ N (141 + 5 * (i : Int) + 4) = b.2.2.2.2
/-- elsewhere the row stays -/
def pO (N N' : Int → Int) : Prop := ∀ j, (j < 141 ∨ 201 ≤ j) → j ≠ 5 → N' j = N j
theorem pO.rf {N : Int → Int} : pO N N := fun _ _ _ => rfl
theorem pO.tr {N N' N'' : Int → Int} (h : pO N N') (h' : pO N' N'') : pO N N'' := fun j a c => (h' j a c).trans (h j a c)
theorem pRep.hd {M : MM} {D T : List Pl} {b : Pl} (h : pRep (M 1) (D ++ b :: T)) : (mP M D.length 0 = b.1 ∧ mP M D.length 1 = b.2.1 ∧ mP M D.length 2 = b.2.2.1 ∧ mP M D.length 3 = b.2.2.2.1 ∧ mP M D.length 4 = b.2.2.2.2) ∧ (D.length : Int) < M 1 5 ∧ M 1 5 ≤ 12 ∧ M 1 5 = D.length + 1 + T.length := by
  have h1 := h.2.2 D.length b app_at
  have h2 := h.1
  have h3 := h.2.1
  rw [List.length_append, List.length_cons] at h2 h3
  exact ⟨h1, by omega, by omega, by omega⟩
theorem pRep.nil {M : MM} {D T : List Pl} {p : Int} (h : pRep (M 1) (D ++ T)) (hp : p = D.length) (hc : M 1 5 ≤ p) : T = [] := by
  have h2 := h.1
  rw [List.length_append] at h2
  cases T with
  | nil => rfl
  | cons b t => rw [List.length_cons] at h2; omega
theorem pRep.cons {M : MM} {D T : List Pl} {p : Int} (h : pRep (M 1) (D ++ T)) (hp : p = D.length) (hc : p < M 1 5) : ∃ b t, T = b :: t := by
  have h2 := h.1
  rw [List.length_append] at h2
  cases T with
  | nil => rw [List.length_nil] at h2; omega
  | cons b t => exact ⟨b, t, rfl⟩
theorem pRep.same {N N' : Int → Int} {bs : List Pl} (h : pRep N bs) (hc : N' 5 = N 5) (hs : ∀ j, 141 ≤ j → j < 201 → N' j = N j) : pRep N' bs := by
  refine ⟨by rw [hc]; exact h.1, h.2.1, fun i b hi => ?_⟩
  have hl : i < bs.length := (List.getElem?_eq_some_iff.mp hi).1
  have h2 := h.2.1
  have h3 := h.2.2 i b hi
  refine ⟨by rw [hs _ (by omega) (by omega)]; exact h3.1, by rw [hs _ (by omega) (by omega)]; exact h3.2.1, by rw [hs _ (by omega) (by omega)]; exact h3.2.2.1, by rw [hs _ (by omega) (by omega)]; exact h3.2.2.2.1, by rw [hs _ (by omega) (by omega)]; exact h3.2.2.2.2⟩
theorem pRep.out {M : MM} {D T : List Pl} {b : Pl} (h : pRep (M 1) (D ++ b :: T)) : pRep (mTake M 141 5 D.length 5 1) (D ++ T) ∧ pO (M 1) (mTake M 141 5 D.length 5 1) ∧ ∀ r, r ≠ 1 → mTake M 141 5 D.length 5 r = M r := by
  obtain ⟨-, hd1, hd2, hd3⟩ := h.hd
  refine ⟨⟨?_, ?_, fun i c hi => ?_⟩, fun j hj hc => ?_, fun r hr => ?_⟩
  · unfold mTake
    rw [mdown_o (by omega), mset_s, List.length_append]
    omega
  · rw [List.length_append]; omega
  · have hl : i < (D ++ T).length := (List.getElem?_eq_some_iff.mp hi).1
    rw [List.length_append] at hl
    by_cases hlt : i < D.length
    · rw [List.getElem?_append_left hlt] at hi
      have h3 := h.2.2 i c (by rw [List.getElem?_append_left hlt]; exact hi)
      refine ⟨by rw [mTake_o (by omega)]; exact h3.1, by rw [mTake_o (by omega)]; exact h3.2.1, by rw [mTake_o (by omega)]; exact h3.2.2.1, by rw [mTake_o (by omega)]; exact h3.2.2.2.1, by rw [mTake_o (by omega)]; exact h3.2.2.2.2⟩
    · rw [List.getElem?_append_right (by omega)] at hi
      have h3 := h.2.2 (i + 1) c (by rw [List.getElem?_append_right (by omega), show i + 1 - D.length = (i - D.length) + 1 by omega]; exact hi)
      have key : ∀ j : Int, 141 + 5 * (D.length : Int) ≤ j → j < 141 + 5 * (M 1 5 - 1) → mTake M 141 5 D.length 5 1 j = M 1 (j + 5) := by
        intro j h1 h2
        unfold mTake mdown
        rw [if_pos ⟨rfl, h1, by omega⟩, mset_n (Or.inr (by omega))]
      refine ⟨by rw [key _ (by omega) (by omega), show 141 + 5 * (i : Int) + 0 + 5 = 141 + 5 * ((i + 1 : Nat) : Int) + 0 by omega]; exact h3.1, by rw [key _ (by omega) (by omega), show 141 + 5 * (i : Int) + 1 + 5 = 141 + 5 * ((i + 1 : Nat) : Int) + 1 by omega]; exact h3.2.1, by rw [key _ (by omega) (by omega), show 141 + 5 * (i : Int) + 2 + 5 = 141 + 5 * ((i + 1 : Nat) : Int) + 2 by omega]; exact h3.2.2.1, by rw [key _ (by omega) (by omega), show 141 + 5 * (i : Int) + 3 + 5 = 141 + 5 * ((i + 1 : Nat) : Int) + 3 by omega]; exact h3.2.2.2.1, by rw [key _ (by omega) (by omega), show 141 + 5 * (i : Int) + 4 + 5 = 141 + 5 * ((i + 1 : Nat) : Int) + 4 by omega]; exact h3.2.2.2.2⟩
  · exact mTake_o (by omega)
  · funext j
    exact mTake_o (Or.inl hr)
theorem pRep.sheets {M : MM} {D T : List Pl} {b : Pl} {z : Int} (h : pRep (M 1) (D ++ b :: T)) : pRep (mset M 1 (141 + 5 * (D.length : Int) + 3) z 1) (D ++ (b.1, b.2.1, b.2.2.1, z, b.2.2.2.2) :: T) ∧ pO (M 1) (mset M 1 (141 + 5 * (D.length : Int) + 3) z 1) := by
  obtain ⟨-, hd1, hd2, hd3⟩ := h.hd
  refine ⟨⟨?_, ?_, fun i c hi => ?_⟩, fun j hj hc => mset_k (by omega)⟩
  · rw [mset_k (by omega), h.1, List.length_append, List.length_append]; rfl
  · have := h.2.1
    rw [List.length_append] at this ⊢; exact this
  · have hl : i < (D ++ (b.1, b.2.1, b.2.2.1, z, b.2.2.2.2) :: T).length := (List.getElem?_eq_some_iff.mp hi).1
    rw [List.length_append, List.length_cons] at hl
    by_cases hi0 : i = D.length
    · subst hi0
      rw [app_at] at hi
      cases hi
      have h3 := h.2.2 D.length b app_at
      refine ⟨by rw [mset_k (by omega)]; exact h3.1, by rw [mset_k (by omega)]; exact h3.2.1, by rw [mset_k (by omega)]; exact h3.2.2.1, mset_s, by rw [mset_k (by omega)]; exact h3.2.2.2.2⟩
    · have h3 : (D ++ b :: T)[i]? = some c := by
        by_cases hlt : i < D.length
        · rw [List.getElem?_append_left hlt] at hi ⊢; exact hi
        · rw [List.getElem?_append_right (by omega)] at hi ⊢
          rw [show i - D.length = (i - D.length - 1) + 1 by omega] at hi ⊢
          exact hi
      have h4 := h.2.2 i c h3
      refine ⟨by rw [mset_k (by omega)]; exact h4.1, by rw [mset_k (by omega)]; exact h4.2.1, by rw [mset_k (by omega)]; exact h4.2.2.1, by rw [mset_k (by omega)]; exact h4.2.2.2.1, by rw [mset_k (by omega)]; exact h4.2.2.2.2⟩
theorem pRep.days {M : MM} {D T : List Pl} {b : Pl} {z : Int} (h : pRep (M 1) (D ++ b :: T)) : pRep (mset M 1 (141 + 5 * (D.length : Int) + 4) z 1) (D ++ (b.1, b.2.1, b.2.2.1, b.2.2.2.1, z) :: T) ∧ pO (M 1) (mset M 1 (141 + 5 * (D.length : Int) + 4) z 1) := by
  obtain ⟨-, hd1, hd2, hd3⟩ := h.hd
  refine ⟨⟨?_, ?_, fun i c hi => ?_⟩, fun j hj hc => mset_k (by omega)⟩
  · rw [mset_k (by omega), h.1, List.length_append, List.length_append]; rfl
  · have := h.2.1
    rw [List.length_append] at this ⊢; exact this
  · have hl : i < (D ++ (b.1, b.2.1, b.2.2.1, b.2.2.2.1, z) :: T).length := (List.getElem?_eq_some_iff.mp hi).1
    rw [List.length_append, List.length_cons] at hl
    by_cases hi0 : i = D.length
    · subst hi0
      rw [app_at] at hi
      cases hi
      have h3 := h.2.2 D.length b app_at
      refine ⟨by rw [mset_k (by omega)]; exact h3.1, by rw [mset_k (by omega)]; exact h3.2.1, by rw [mset_k (by omega)]; exact h3.2.2.1, by rw [mset_k (by omega)]; exact h3.2.2.2.1, mset_s⟩
    · have h3 : (D ++ b :: T)[i]? = some c := by
        by_cases hlt : i < D.length
        · rw [List.getElem?_append_left hlt] at hi ⊢; exact hi
        · rw [List.getElem?_append_right (by omega)] at hi ⊢
          rw [show i - D.length = (i - D.length - 1) + 1 by omega] at hi ⊢
          exact hi
      have h4 := h.2.2 i c h3
      refine ⟨by rw [mset_k (by omega)]; exact h4.1, by rw [mset_k (by omega)]; exact h4.2.1, by rw [mset_k (by omega)]; exact h4.2.2.1, by rw [mset_k (by omega)]; exact h4.2.2.2.1, by rw [mset_k (by omega)]; exact h4.2.2.2.2⟩
theorem pRep.push {N N' : Int → Int} {bs : List Pl} {s0 s1 s2 s3 s4 : Int} (h : pRep N bs) (hl : bs.length < 12) (hc : N' 5 = N 5 + 1) (hs : ∀ j, 141 ≤ j → j < 141 + 5 * (bs.length : Int) → N' j = N j) (hn : N' (141 + 5 * (bs.length : Int) + 0) = s0 ∧ N' (141 + 5 * (bs.length : Int) + 1) = s1 ∧ N' (141 + 5 * (bs.length : Int) + 2) = s2 ∧ N' (141 + 5 * (bs.length : Int) + 3) = s3 ∧ N' (141 + 5 * (bs.length : Int) + 4) = s4) : pRep N' (bs ++ [(s0, s1, s2, s3, s4)]) := by
  refine ⟨by rw [hc, h.1, List.length_append]; rfl, by rw [List.length_append]; exact hl, fun i c hi => ?_⟩
  have hlt : i < (bs ++ [(s0, s1, s2, s3, s4)]).length := (List.getElem?_eq_some_iff.mp hi).1
  rw [List.length_append] at hlt
  simp only [List.length_cons, List.length_nil] at hlt
  by_cases h0 : i < bs.length
  · rw [List.getElem?_append_left h0] at hi
    have h4 := h.2.2 i c hi
    refine ⟨by rw [hs _ (by omega) (by omega)]; exact h4.1, by rw [hs _ (by omega) (by omega)]; exact h4.2.1, by rw [hs _ (by omega) (by omega)]; exact h4.2.2.1, by rw [hs _ (by omega) (by omega)]; exact h4.2.2.2.1, by rw [hs _ (by omega) (by omega)]; exact h4.2.2.2.2⟩
  · obtain rfl : i = bs.length := by omega
    rw [app_at (T := [])] at hi
    cases hi
    exact hn
def rRep (N : Int → Int) (bs : List Bl) : Prop := N 6 = bs.length ∧ bs.length ≤ 30 ∧ ∀ (i : Nat) (b : Bl), bs[i]? = some b → N (201 + 4 * (i : Int) + 0) = b.1 ∧ N (201 + 4 * (i : Int) + 1) = b.2.1 ∧ N (201 + 4 * (i : Int) + 2) = b.2.2.1 ∧ N (201 + 4 * (i : Int) + 3) = b.2.2.2
/-- elsewhere the row stays -/
def rO (N N' : Int → Int) : Prop := ∀ j, (j < 201 ∨ 321 ≤ j) → j ≠ 6 → N' j = N j
theorem rO.rf {N : Int → Int} : rO N N := fun _ _ _ => rfl
theorem rO.tr {N N' N'' : Int → Int} (h : rO N N') (h' : rO N' N'') : rO N N'' := fun j a c => (h' j a c).trans (h j a c)
theorem rRep.hd {M : MM} {D T : List Bl} {b : Bl} (h : rRep (M 1) (D ++ b :: T)) : (mRm M D.length 0 = b.1 ∧ mRm M D.length 1 = b.2.1 ∧ mRm M D.length 2 = b.2.2.1 ∧ mRm M D.length 3 = b.2.2.2) ∧ (D.length : Int) < M 1 6 ∧ M 1 6 ≤ 30 ∧ M 1 6 = D.length + 1 + T.length := by
  have h1 := h.2.2 D.length b app_at
  have h2 := h.1
  have h3 := h.2.1
  rw [List.length_append, List.length_cons] at h2 h3
  exact ⟨h1, by omega, by omega, by omega⟩
theorem rRep.nil {M : MM} {D T : List Bl} {p : Int} (h : rRep (M 1) (D ++ T)) (hp : p = D.length) (hc : M 1 6 ≤ p) : T = [] := by
  have h2 := h.1
  rw [List.length_append] at h2
  cases T with
  | nil => rfl
  | cons b t => rw [List.length_cons] at h2; omega
theorem rRep.cons {M : MM} {D T : List Bl} {p : Int} (h : rRep (M 1) (D ++ T)) (hp : p = D.length) (hc : p < M 1 6) : ∃ b t, T = b :: t := by
  have h2 := h.1
  rw [List.length_append] at h2
  cases T with
  | nil => rw [List.length_nil] at h2; omega
  | cons b t => exact ⟨b, t, rfl⟩
theorem rRep.same {N N' : Int → Int} {bs : List Bl} (h : rRep N bs) (hc : N' 6 = N 6) (hs : ∀ j, 201 ≤ j → j < 321 → N' j = N j) : rRep N' bs := by
  refine ⟨by rw [hc]; exact h.1, h.2.1, fun i b hi => ?_⟩
  have hl : i < bs.length := (List.getElem?_eq_some_iff.mp hi).1
  have h2 := h.2.1
  have h3 := h.2.2 i b hi
  refine ⟨by rw [hs _ (by omega) (by omega)]; exact h3.1, by rw [hs _ (by omega) (by omega)]; exact h3.2.1, by rw [hs _ (by omega) (by omega)]; exact h3.2.2.1, by rw [hs _ (by omega) (by omega)]; exact h3.2.2.2⟩
theorem rRep.out {M : MM} {D T : List Bl} {b : Bl} (h : rRep (M 1) (D ++ b :: T)) : rRep (mTake M 201 4 D.length 6 1) (D ++ T) ∧ rO (M 1) (mTake M 201 4 D.length 6 1) ∧ ∀ r, r ≠ 1 → mTake M 201 4 D.length 6 r = M r := by
  obtain ⟨-, hd1, hd2, hd3⟩ := h.hd
  refine ⟨⟨?_, ?_, fun i c hi => ?_⟩, fun j hj hc => ?_, fun r hr => ?_⟩
  · unfold mTake
    rw [mdown_o (by omega), mset_s, List.length_append]
    omega
  · rw [List.length_append]; omega
  · have hl : i < (D ++ T).length := (List.getElem?_eq_some_iff.mp hi).1
    rw [List.length_append] at hl
    by_cases hlt : i < D.length
    · rw [List.getElem?_append_left hlt] at hi
      have h3 := h.2.2 i c (by rw [List.getElem?_append_left hlt]; exact hi)
      refine ⟨by rw [mTake_o (by omega)]; exact h3.1, by rw [mTake_o (by omega)]; exact h3.2.1, by rw [mTake_o (by omega)]; exact h3.2.2.1, by rw [mTake_o (by omega)]; exact h3.2.2.2⟩
    · rw [List.getElem?_append_right (by omega)] at hi
      have h3 := h.2.2 (i + 1) c (by rw [List.getElem?_append_right (by omega), show i + 1 - D.length = (i - D.length) + 1 by omega]; exact hi)
      have key : ∀ j : Int, 201 + 4 * (D.length : Int) ≤ j → j < 201 + 4 * (M 1 6 - 1) → mTake M 201 4 D.length 6 1 j = M 1 (j + 4) := by
        intro j h1 h2
        unfold mTake mdown
        rw [if_pos ⟨rfl, h1, by omega⟩, mset_n (Or.inr (by omega))]
      refine ⟨by rw [key _ (by omega) (by omega), show 201 + 4 * (i : Int) + 0 + 4 = 201 + 4 * ((i + 1 : Nat) : Int) + 0 by omega]; exact h3.1, by rw [key _ (by omega) (by omega), show 201 + 4 * (i : Int) + 1 + 4 = 201 + 4 * ((i + 1 : Nat) : Int) + 1 by omega]; exact h3.2.1, by rw [key _ (by omega) (by omega), show 201 + 4 * (i : Int) + 2 + 4 = 201 + 4 * ((i + 1 : Nat) : Int) + 2 by omega]; exact h3.2.2.1, by rw [key _ (by omega) (by omega), show 201 + 4 * (i : Int) + 3 + 4 = 201 + 4 * ((i + 1 : Nat) : Int) + 3 by omega]; exact h3.2.2.2⟩
  · exact mTake_o (by omega)
  · funext j
    exact mTake_o (Or.inl hr)
theorem rRep.push {N N' : Int → Int} {bs : List Bl} {s0 s1 s2 s3 : Int} (h : rRep N bs) (hl : bs.length < 30) (hc : N' 6 = N 6 + 1) (hs : ∀ j, 201 ≤ j → j < 201 + 4 * (bs.length : Int) → N' j = N j) (hn : N' (201 + 4 * (bs.length : Int) + 0) = s0 ∧ N' (201 + 4 * (bs.length : Int) + 1) = s1 ∧ N' (201 + 4 * (bs.length : Int) + 2) = s2 ∧ N' (201 + 4 * (bs.length : Int) + 3) = s3) : rRep N' (bs ++ [(s0, s1, s2, s3)]) := by
  refine ⟨by rw [hc, h.1, List.length_append]; rfl, by rw [List.length_append]; exact hl, fun i c hi => ?_⟩
  have hlt : i < (bs ++ [(s0, s1, s2, s3)]).length := (List.getElem?_eq_some_iff.mp hi).1
  rw [List.length_append] at hlt
  simp only [List.length_cons, List.length_nil] at hlt
  by_cases h0 : i < bs.length
  · rw [List.getElem?_append_left h0] at hi
    have h4 := h.2.2 i c hi
    refine ⟨by rw [hs _ (by omega) (by omega)]; exact h4.1, by rw [hs _ (by omega) (by omega)]; exact h4.2.1, by rw [hs _ (by omega) (by omega)]; exact h4.2.2.1, by rw [hs _ (by omega) (by omega)]; exact h4.2.2.2⟩
  · obtain rfl : i = bs.length := by omega
    rw [app_at (T := [])] at hi
    cases hi
    exact hn
end MABS

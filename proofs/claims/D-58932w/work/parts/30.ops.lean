/-! THE MILL's OPERATIONS over lists (both sides are tied to these), and the model's memory as such a mill -/
section MOPS
/-- the mill now, the snapshot, the saved mills, the text -/
abbrev Ab : Type := St × Option St × List St × List Int
def svA (A : Ab) (S : St) : Ab := (S, A.2.1, (if A.2.2.1.length = 5 then A.2.2.1.tail else A.2.2.1) ++ [A.1], A.2.2.2)
def okA (P Q : Int) (A : Ab) : Prop := okS 999 P Q A.1 ∧ (∀ S, A.2.1 = some S → okS 999 P Q S) ∧ (∀ S ∈ A.2.2.1, okS 999 P Q S) ∧ ∀ c ∈ A.2.2.2, 32 ≤ c ∧ c ≤ 126
def hRep (M : MM) (hs : List St) : Prop := M 0 0 = hs.length ∧ hs.length ≤ 5 ∧ ∀ (i : Nat) (S : St), hs[i]? = some S → sRep (fun j => M 2 (321 * (i : Int) + j)) S
def nRep (M : MM) (sn : Option St) : Prop := (M 0 1 = 0 ∧ sn = none) ∨ (M 0 1 = 1 ∧ ∃ S, sn = some S ∧ sRep (M 3) S)
def tRep (M : MM) (tx : List Int) : Prop := M 0 2 = tx.length ∧ tx.length ≤ 60 ∧ ∀ (i : Nat) (c : Int), tx[i]? = some c → M 7 i = c
def mRep (M : MM) (A : Ab) : Prop := sRep (M 1) A.1 ∧ nRep M A.2.1 ∧ hRep M A.2.2.1 ∧ tRep M A.2.2.2
theorem sRep.congr {N N' : Int → Int} {S : St} (h : sRep N S) (e : ∀ j, 0 ≤ j → j < 321 → N' j = N j) : sRep N' S := by
  obtain ⟨hs, hb, hp, hr⟩ := h
  refine ⟨fun j hj => ?_, hb.same (e _ (by omega) (by omega)) (fun j a c => e _ (by omega) (by omega)), hp.same (e _ (by omega) (by omega)) (fun j a c => e _ (by omega) (by omega)), hr.same (e _ (by omega) (by omega)) (fun j a c => e _ (by omega) (by omega))⟩
  rw [e j (by unfold scI at hj; omega) (by unfold scI at hj; omega)]
  exact hs j hj
theorem mRep.gen {M M' : MM} {A : Ab} {S' : St} (h : mRep M A) (h1 : sRep (M' 1) S') (h0 : M' 0 0 = M 0 0 ∧ M' 0 1 = M 0 1 ∧ M' 0 2 = M 0 2) (h2 : M' 2 = M 2) (h3 : M' 3 = M 3) (h7 : M' 7 = M 7) : mRep M' (S', A.2) := by
  obtain ⟨-, hn, hh, ht⟩ := h
  refine ⟨h1, ?_, ⟨h0.1.trans hh.1, hh.2.1, fun i S hi => ?_⟩, ⟨h0.2.2.trans ht.1, ht.2.1, fun i c hi => ?_⟩⟩
  · rcases hn with ⟨a, b⟩ | ⟨a, b⟩
    · exact Or.inl ⟨h0.2.1.trans a, b⟩
    · refine Or.inr ⟨h0.2.1.trans a, ?_⟩
      rw [h3]
      exact b
  · show sRep (fun j => M' 2 (321 * (i : Int) + j)) S
    rw [h2]
    exact hh.2.2 i S hi
  · rw [h7]
    exact ht.2.2 i c hi
theorem mRep.row {M M' : MM} {A : Ab} {S' : St} (h : mRep M A) (h1 : sRep (M' 1) S') (hr : ∀ q, q ≠ 1 → M' q = M q) : mRep M' (S', A.2) :=
  h.gen h1 (by rw [hr 0 (by decide)]; exact ⟨rfl, rfl, rfl⟩) (hr 2 (by decide)) (hr 3 (by decide)) (hr 7 (by decide))
theorem mRep.row5 {M M' : MM} {A : Ab} (h : mRep M A) (hr : ∀ q, q ≠ 5 → M' q = M q) : mRep M' A :=
  h.gen (S' := A.1) (by rw [hr 1 (by decide)]; exact h.1) (by rw [hr 0 (by decide)]; exact ⟨rfl, rfl, rfl⟩) (hr 2 (by decide)) (hr 3 (by decide)) (hr 7 (by decide))
theorem mRep.num {M : MM} {A : Ab} {k z : Int} (h : mRep M A) (hk : 3 ≤ k) : mRep (mset M 0 k z) A :=
  h.gen (S' := A.1) (by rw [mset_r (by decide)]; exact h.1) ⟨mset_k (by omega), mset_k (by omega), mset_k (by omega)⟩ (mset_r (by decide)) (mset_r (by decide)) (mset_r (by decide))
theorem mRep.saved {M M' : MM} {A : Ab} (h : mRep M A) (hs : mSaved M M') : mRep M' (svA A A.1) := by
  obtain ⟨h1, hn, hh, ht⟩ := h
  obtain ⟨r, r0, hc⟩ := hs
  refine ⟨by rw [r 1 (by decide) (by decide)]; exact h1, ?_, ?_, ⟨(r0 2 (by decide)).trans ht.1, ht.2.1, fun i c hi => by rw [r 7 (by decide) (by decide)]; exact ht.2.2 i c hi⟩⟩
  · show nRep M' A.2.1
    unfold nRep
    rw [r0 1 (by decide), r 3 (by decide) (by decide)]
    exact hn
  · show hRep M' ((if A.2.2.1.length = 5 then A.2.2.1.tail else A.2.2.1) ++ [A.1])
    have hl := hh.1
    rcases hc with ⟨c1, c2, c3, c4⟩ | ⟨c1, c2, c3, c4⟩
    · rw [if_neg (by omega)]
      refine ⟨by rw [c2, hl, List.length_append]; rfl, by rw [List.length_append]; show _ + 1 ≤ 5; omega, fun i S hi => ?_⟩
      by_cases hlt : i < A.2.2.1.length
      · rw [List.getElem?_append_left hlt] at hi
        exact (hh.2.2 i S hi).congr (fun j a b => c3 _ (by omega) (by omega))
      · rw [List.getElem?_append_right (by omega)] at hi
        obtain rfl : i = A.2.2.1.length := by
          have := (List.getElem?_eq_some_iff.mp hi).1
          simp only [List.length_cons, List.length_nil] at this
          omega
        rw [Nat.sub_self] at hi
        cases hi
        exact h1.congr (fun j a b => by show M' 2 (321 * (A.2.2.1.length : Int) + j) = _; rw [← hl]; exact c4 j a b)
    · rw [if_pos (by omega)]
      have hl4 : A.2.2.1.tail.length = 4 := by rw [List.length_tail]; omega
      refine ⟨by rw [c2, List.length_append, hl4]; rfl, by rw [List.length_append, hl4]; exact Nat.le_refl 5, fun i S hi => ?_⟩
      by_cases hlt : i < 4
      · rw [List.getElem?_append_left (by omega), List.getElem?_tail] at hi
        exact (hh.2.2 (i + 1) S hi).congr (fun j a b => by
          show M' 2 (321 * (i : Int) + j) = M 2 (321 * ((i + 1 : Nat) : Int) + j)
          rw [c3 _ (by omega) (by omega), show 321 * (i : Int) + j + 321 = 321 * ((i + 1 : Nat) : Int) + j by omega])
      · rw [List.getElem?_append_right (by omega)] at hi
        obtain rfl : i = 4 := by
          have := (List.getElem?_eq_some_iff.mp hi).1
          simp only [List.length_cons, List.length_nil] at this
          omega
        rw [hl4] at hi
        cases hi
        exact h1.congr (fun j a b => by show M' 2 (321 * ((4 : Nat) : Int) + j) = _; rw [show 321 * ((4 : Nat) : Int) + j = 1284 + j by omega]; exact c4 j a b)
theorem okA.I {M : MM} {A : Ab} {P Q : Int} (h : okA P Q A) (hA : mRep M A) (hP : P ≤ 900000) (hQ : Q ≤ 9000000) : mI M := okN.of (by omega) (by omega) (by omega) hA.1 h.1
/-- how a call of the model's ends: refused with g, or done -/
def outP (g : Int) (A : Ab) (r' : Int) (A' : Ab) (r : Int) (M' : MM) : Prop := M' 0 3 = g ∧ ((g ≠ 0 ∧ mRep M' A) ∨ (g = 0 ∧ r = r' ∧ mRep M' A'))
theorem mThr {M M' : MM} {g : Int} (h : mSaved (mset M 0 3 g) M') : M' 0 3 = g := by rw [h.2.1 3 (by decide), mset_s]
theorem sc_at {M : MM} {A : Ab} (h : mRep M A) {j : Int} (hj : scI j) : M 1 j = A.1.1 j := h.1.1 j hj
theorem mDebt_S {M : MM} {S : St} (h : sRep (M 1) S) {c : Int} (hc : 0 ≤ c ∧ c < 4) : mDebt M c = S.1 (13 + 2 * c) := h.1 _ (by unfold scI; omega)
theorem mPass_S {M : MM} {S : St} (h : sRep (M 1) S) {c : Int} (hc : 0 ≤ c ∧ c < 4) : mPass M c = S.1 (13 + 2 * c + 1) := h.1 _ (by unfold scI; omega)
theorem mU_S {M : MM} {S : St} (h : sRep (M 1) S) {v : Int} (hv : 0 ≤ v ∧ v < 3) : mU M v = S.1 (117 + 3 * v) := h.1 _ (by unfold scI; omega)
theorem mV_S {M : MM} {S : St} (h : sRep (M 1) S) {v w : Int} (hv : 0 ≤ v ∧ v < 3) (hw : 0 ≤ w ∧ w < 3) : mV M v w = S.1 (117 + 3 * v + w) := h.1 _ (by unfold scI; omega)
theorem mMk_S {M : MM} {S : St} (h : sRep (M 1) S) {v : Int} (hv : 0 ≤ v ∧ v < 5) : mMk M v = S.1 (126 + 3 * v) := h.1 _ (by unfold scI; omega)
theorem mMo_S {M : MM} {S : St} (h : sRep (M 1) S) {v w : Int} (hv : 0 ≤ v ∧ v < 5) (hw : 0 ≤ w ∧ w < 3) : mMo M v w = S.1 (126 + 3 * v + w) := h.1 _ (by unfold scI; omega)
def tollS (S : St) (c w : Int) : Int := if S.1 0 ≤ S.1 (13 + 2 * c + 1) then (w + 9) / 10 else 2 * ((w + 9) / 10)
theorem mToll_S {M : MM} {S : St} (h : sRep (M 1) S) {c w : Int} (hc : 0 ≤ c ∧ c < 4) : mToll M c w = tollS S c w := by
  unfold mToll tollS
  rw [mPass_S h hc, h.1 0 (by unfold scI; omega)]
def whyInS (S : St) (c w z : Int) : Int := if S.2.1.length = 24 then 1 else if S.1 3 < z then 2 else if 300 < S.1 (13 + 2 * c) + tollS S c w then 3 else 0
theorem mWhyIn_S {M : MM} {S : St} (h : sRep (M 1) S) {c w z : Int} (hc : 0 ≤ c ∧ c < 4) : mWhyIn M c w z = whyInS S c w z := by
  unfold mWhyIn whyInS
  rw [mToll_S h hc, mDebt_S h hc, h.1 3 (by unfold scI; omega), h.2.1.1]
  by_cases h1 : S.2.1.length = 24
  · rw [if_pos h1, if_pos (by omega)]
  · rw [if_neg h1, if_neg (by omega)]
def gDel (S : St) (c s w z : Int) : Int := if ¬ (0 ≤ c ∧ c ≤ 3) then 1 else if ¬ ((0 ≤ s ∧ s ≤ 3) ∧ (10 ≤ w ∧ w ≤ 300) ∧ (0 ≤ z ∧ z ≤ 99)) then 2 else if whyInS S c w z = 0 then 0 else 3
def delS (c s w z : Int) (S : St) : St := (iup S.1 (13 + 2 * c) (S.1 (13 + 2 * c) + tollS S c w), (if mRags w z = 0 then S.2.1 else S.2.1 ++ [(s, mRags w z, z, 0)]), S.2.2)
def delR (w z : Int) (S : St) : Int := if mRags w z = 0 then -1 else S.2.1.length
theorem sRep.bale {M : MM} {S : St} {a b c : Int} (h : sRep (M 1) S) (hl : M 1 4 < 24) : sRep (mset (mBaleIn M (M 1 4) a b c) 1 4 (M 1 4 + 1) 1) (S.1, S.2.1 ++ [(a, b, c, 0)], S.2.2) := by
  obtain ⟨hs, hb, hp, hr⟩ := h
  have h4 := hb.1
  have hl2 : S.2.1.length < 24 := by omega
  rw [h4]
  have o : ∀ j, j ≠ 4 → (j < 21 + 4 * (S.2.1.length : Int) ∨ 21 + 4 * (S.2.1.length : Int) + 3 < j) → mset (mBaleIn M (S.2.1.length : Int) a b c) 1 4 ((S.2.1.length : Int) + 1) 1 j = M 1 j := fun j x y => by
    unfold mBaleIn
    rw [mset_k x, mset_k (by omega), mset_k (by omega), mset_k (by omega), mset_k (by omega)]
  refine ⟨fun i hi => ?_, hb.push hl2 ?_ (fun j x y => o j (by omega) (by omega)) ⟨?_, ?_, ?_, ?_⟩, hp.same (o _ (by omega) (by omega)) (fun i a c => o _ (by omega) (by omega)), hr.same (o _ (by omega) (by omega)) (fun i a c => o _ (by omega) (by omega))⟩
  · unfold scI at hi
    rw [o i (by omega) (by omega)]
    exact hs i hi
  · rw [mset_s, h4]
  · unfold mBaleIn
    rw [mset_k (by omega), mset_k (by omega), mset_k (by omega), mset_k (by omega), mset_s]
  · unfold mBaleIn
    rw [mset_k (by omega), mset_k (by omega), mset_k (by omega), mset_s]
  · unfold mBaleIn
    rw [mset_k (by omega), mset_k (by omega), mset_s]
  · unfold mBaleIn
    rw [mset_k (by omega), mset_s]
theorem comes_end {M M' : MM} {S : St} {c s w z r : Int} (h : sRep (M 1) S) (hc : 0 ≤ c ∧ c < 4) (hl : M 1 4 < 24)
    (hp : (mRags w z = 0 ∧ r = -1 ∧ M' = mset M 1 (13 + 2 * c) (mDebt M c + mToll M c w)) ∨ (mRags w z ≠ 0 ∧ r = M 1 4 ∧ M' = mset (mBaleIn (mset M 1 (13 + 2 * c) (mDebt M c + mToll M c w)) (M 1 4) s (mRags w z) z) 1 4 (M 1 4 + 1))) :
    r = delR w z S ∧ sRep (M' 1) (delS c s w z S) ∧ ∀ q, q ≠ 1 → M' q = M q := by
  rw [mDebt_S h hc, mToll_S h hc] at hp
  have h1 : sRep (mset M 1 (13 + 2 * c) (S.1 (13 + 2 * c) + tollS S c w) 1) (iup S.1 (13 + 2 * c) (S.1 (13 + 2 * c) + tollS S c w), S.2) := h.set (by unfold scI; omega)
  unfold delR delS
  rcases hp with ⟨a, b, e⟩ | ⟨a, b, e⟩
  · rw [if_pos a, if_pos a, e]
    exact ⟨b, h1, fun q hq => mset_r hq⟩
  · rw [if_neg a, if_neg a, e, b]
    have e4 : mset M 1 (13 + 2 * c) (S.1 (13 + 2 * c) + tollS S c w) 1 4 = M 1 4 := mset_k (by omega)
    have h2 := h1.bale (a := s) (b := mRags w z) (c := z) (by rw [e4]; exact hl)
    rw [e4] at h2
    exact ⟨h.2.1.1, h2, fun q hq => by unfold mBaleIn; rw [mset_r hq, mset_r hq, mset_r hq, mset_r hq, mset_r hq, mset_r hq]⟩
def gPay (S : St) (c p : Int) : Int := if ¬ (0 ≤ c ∧ c ≤ 3) then 1 else if ¬ (1 ≤ p ∧ p ≤ 300) then 2 else if S.1 (13 + 2 * c) < p then 3 else 0
def payS (c p : Int) (S : St) : St := (iup (iup S.1 (13 + 2 * c) (S.1 (13 + 2 * c) - p)) 1 (S.1 1 + p), S.2)
def gPas (S : St) (c n : Int) : Int := if ¬ (0 ≤ c ∧ c ≤ 3) then 1 else if ¬ (1 ≤ n ∧ n ≤ 30) then 2 else if 300 < S.1 (13 + 2 * c) + 3 * n then 3 else 0
def pasS (c n : Int) (S : St) : St := (iup (iup S.1 (13 + 2 * c) (S.1 (13 + 2 * c) + 3 * n)) (13 + 2 * c + 1) (S.1 0 + n - 1), S.2)
def beatS (v n : Int) (S : St) : St := (iup (iup (iup S.1 (117 + 3 * v) (40 * n)) (117 + 3 * v + 1) 0) (117 + 3 * v + 2) (zsum (fun j => mShare S.1 n j * strn j) 4 / n), beatL (mShare S.1 n) S.2.1, S.2.2)
def goodL (s : Int) : List Bl → Int
  | [] => 0
  | b :: t => (if b.1 = s ∧ b.2.2.2 ≠ -1 then b.2.1 else 0) + goodL s t
def whyBS (S : St) (v n : Int) : Int := if 0 < S.1 (117 + 3 * v) then 1 else if goodL 0 S.2.1 < mShare S.1 n 0 then 2 else if goodL 1 S.2.1 < mShare S.1 n 1 then 3 else if goodL 2 S.2.1 < mShare S.1 n 2 then 4 else if goodL 3 S.2.1 < mShare S.1 n 3 then 5 else 0
theorem mShare_c {N N' : Int → Int} (h : ∀ j, 8 ≤ j → j < 12 → N' j = N j) {n j : Int} (hj : 0 ≤ j ∧ j < 4) : mShare N' n j = mShare N n j ∧ mQuo N' n j = mQuo N n j ∧ mRem N' n j = mRem N n j := by
  have hT : mT N' = mT N := by
    unfold mT
    rw [h 8 (by omega) (by omega), h 9 (by omega) (by omega), h 10 (by omega) (by omega), h 11 (by omega) (by omega)]
  have hq : ∀ i, 0 ≤ i → i < 4 → mQuo N' n i = mQuo N n i := fun i a b => by unfold mQuo; rw [hT, h _ (by omega) (by omega)]
  have hr : ∀ i, 0 ≤ i → i < 4 → mRem N' n i = mRem N n i := fun i a b => by unfold mRem; rw [hT, h _ (by omega) (by omega)]
  have z4 : ∀ f : Int → Int, zsum f 4 = 0 + f 0 + f 1 + f 2 + f 3 := fun f => rfl
  refine ⟨?_, hq j hj.1 hj.2, hr j hj.1 hj.2⟩
  unfold mShare mAhead mLeft
  rw [z4, z4, z4, z4]
  rw [hq j hj.1 hj.2, hq 0 (by omega) (by omega), hq 1 (by omega) (by omega), hq 2 (by omega) (by omega), hq 3 (by omega) (by omega), hr j hj.1 hj.2, hr 0 (by omega) (by omega), hr 1 (by omega) (by omega), hr 2 (by omega) (by omega), hr 3 (by omega) (by omega)]
theorem goodL_app {s : Int} : ∀ (x y : List Bl), goodL s (x ++ y) = goodL s x + goodL s y
  | [], y => by rw [List.nil_append]; exact (Int.zero_add _).symm
  | q :: t, y => by
    rw [List.cons_append]
    show _ + goodL s (t ++ y) = _ + goodL s t + _
    rw [goodL_app t y]
    omega
theorem goodM_L {M : MM} {bs : List Bl} (h : bRep (M 1) bs) (s : Int) : goodM M s = goodL s bs := by
  unfold goodM
  rw [h.1]
  have key : ∀ n : Nat, n ≤ bs.length → zsum (fun j => if mB M j 0 = s ∧ mB M j 3 ≠ -1 then mB M j 1 else 0) n = goodL s (bs.take n) := by
    intro n
    induction n with
    | zero => intro _; rw [List.take_zero]; rfl
    | succ n ih =>
      intro hn
      obtain ⟨e0, e1, e2, e3⟩ := h.2.2 n bs[n] (List.getElem?_eq_getElem hn)
      rw [show ((n + 1 : Nat) : Int) = (n : Int) + 1 by omega, zsum_s (by omega), ih (by omega), List.take_succ_eq_append_getElem hn, goodL_app]
      show _ + (if mB M n 0 = s ∧ mB M n 3 ≠ -1 then mB M n 1 else 0) = _ + ((if bs[n].1 = s ∧ bs[n].2.2.2 ≠ -1 then bs[n].2.1 else 0) + 0)
      rw [show mB M n 0 = bs[n].1 from e0, show mB M n 1 = bs[n].2.1 from e1, show mB M n 3 = bs[n].2.2.2 from e3]
      omega
  rw [key bs.length (Nat.le_refl _), List.take_length]
theorem mWhyB_S {M : MM} {S : St} (h : sRep (M 1) S) {v n : Int} (hv : 0 ≤ v ∧ v < 3) : mWhyB M v n = whyBS S v n := by
  have e : ∀ j, 8 ≤ j → j < 12 → M 1 j = S.1 j := fun j a b => h.1 j (by unfold scI; omega)
  unfold mWhyB whyBS
  rw [mU_S h hv, goodM_L h.2.1, goodM_L h.2.1, goodM_L h.2.1, goodM_L h.2.1, (mShare_c e (n := n) (j := 0) (by omega)).1, (mShare_c e (n := n) (j := 1) (by omega)).1, (mShare_c e (n := n) (j := 2) (by omega)).1, (mShare_c e (n := n) (j := 3) (by omega)).1]
theorem beatL_congr : ∀ (bs : List Bl) {p p' : Int → Int}, (∀ b ∈ bs, okB b) → (∀ j, 0 ≤ j → j < 4 → p j = p' j) → beatL p bs = beatL p' bs
  | [], _, _, _, _ => rfl
  | b :: t, p, p', hk, h => by
    obtain ⟨k0, -, -, -⟩ := hk b List.mem_cons_self
    have e := h b.1 (by omega) (by omega)
    have eX : beatX p b = beatX p' b := by unfold beatX; rw [e]
    rw [beatL_c, beatL_c, eX, e]
    have ih := beatL_congr t (p := iup p b.1 (p' b.1 - beatX p' b)) (p' := iup p' b.1 (p' b.1 - beatX p' b)) (fun q hq => hk q (List.mem_cons_of_mem _ hq)) (fun j a c => by unfold iup; rw [h j a c])
    rw [ih]
end MOPS
section MOPS2
theorem svA_ok {P Q : Int} {A : Ab} {S : St} (h : okA P Q A) (hS : okS 999 P Q S) : okA P Q (svA A S) := by
  refine ⟨hS, h.2.1, fun T hT => ?_, h.2.2.2⟩
  have hT : T ∈ (if A.2.2.1.length = 5 then A.2.2.1.tail else A.2.2.1) ++ [A.1] := hT
  rcases List.mem_append.mp hT with q | q
  · split at q
    · exact h.2.2.1 T (List.mem_of_mem_tail q)
    · exact h.2.2.1 T q
  · rw [List.mem_singleton.mp q]
    exact h.1
end MOPS2

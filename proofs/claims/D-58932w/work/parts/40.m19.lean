/-! THE MODEL: the text's reader: mixes -/
section M19
/-- a reader of mixes: its place, depth, depth at most, whether it wants a term, whether it is one, whether there is more, parts -/
abbrev Cf : Type := Int × Int × Int × Int × Int × Int × (Int → Int)
abbrev Cf.p (c : Cf) : Int := c.1
abbrev Cf.dp (c : Cf) : Int := c.2.1
abbrev Cf.ds (c : Cf) : Int := c.2.2.1
abbrev Cf.wa (c : Cf) : Int := c.2.2.2.1
abbrev Cf.is (c : Cf) : Int := c.2.2.2.2.1
abbrev Cf.mo (c : Cf) : Int := c.2.2.2.2.2.1
abbrev Cf.f (c : Cf) : Int → Int := c.2.2.2.2.2.2
def fillF (f : Int → Int) (a : Int) : Int → Int := fun j => if a ≤ j ∧ j < a + 4 then 0 else f j
/-- a step of the reader of mixes -/
def mxS (tx : List Int) (c : Cf) : Cf :=
  if (c.wa = 1 ∧ c.dp < 4) ∧ tS tx c.p = 40 then ⟨c.p + 1, c.dp + 1, c.ds, c.wa, c.is, c.mo, fillF c.f (4 * (c.dp + 1))⟩
  else if c.wa = 1 then ⟨trP tx c.p, c.dp, (if c.ds < c.dp then c.dp else c.ds), 0, bit (0 < trN tx c.p), c.mo, iup c.f (4 * c.dp + trD tx c.p) (c.f (4 * c.dp + trD tx c.p) + trN tx c.p)⟩
  else if tS tx c.p = 43 then ⟨c.p + 1, c.dp, c.ds, 1, c.is, c.mo, c.f⟩
  else if 0 < c.dp then (if tS tx c.p = 41 then ⟨c.p + 1 + bit (0 < tmz tx (c.p + 1)), c.dp - 1, c.ds, c.wa, bit (0 < tmz tx (c.p + 1)), c.mo, clsF c.f c.dp (tmz tx (c.p + 1)) 4⟩ else ⟨c.p, c.dp - 1, c.ds, c.wa, 0, c.mo, c.f⟩)
  else ⟨c.p, c.dp, c.ds, c.wa, c.is, 0, c.f⟩
def mxR (tx : List Int) : Nat → Cf → Cf
  | 0, c => c
  | n + 1, c => if c.is = 1 ∧ c.mo = 1 then mxR tx n (mxS tx c) else c
theorem mxR_x {tx : List Int} : ∀ {n : Nat} {c : Cf}, ¬ (c.is = 1 ∧ c.mo = 1) → mxR tx n c = c
  | 0, _, _ => rfl
  | _ + 1, _, h => if_neg h
theorem mxR_s {tx : List Int} {n : Nat} {c : Cf} (h : c.is = 1 ∧ c.mo = 1) : mxR tx (n + 1) c = mxR tx n (mxS tx c) := if_pos h
def mxM (tx : List Int) (c : Cf) : Int := if c.is = 1 ∧ c.mo = 1 then tx.length - c.p + 1 else 0
def mxI (p : Int) (f : Int → Int) : Cf := ⟨p, 0, 0, 1, 1, 1, fillF f 0⟩
def mxE (tx : List Int) (p : Int) (f : Int → Int) : Cf := mxR tx 61 (mxI p f)
/-- what of a sort is in the brackets that are open, is w at most -/
def mxW (f : Int → Int) (dp s w : Int) : Prop := (dp = 0 ∧ 0 ≤ f s ∧ 2 * f s ≤ w) ∨ (dp = 1 ∧ 0 ≤ f s ∧ 0 ≤ f (4 + s) ∧ 2 * (f s + 9 * f (4 + s)) ≤ w) ∨ (dp = 2 ∧ 0 ≤ f s ∧ 0 ≤ f (4 + s) ∧ 0 ≤ f (8 + s) ∧ 2 * (f s + 9 * f (4 + s) + 81 * f (8 + s)) ≤ w) ∨
  (dp = 3 ∧ 0 ≤ f s ∧ 0 ≤ f (4 + s) ∧ 0 ≤ f (8 + s) ∧ 0 ≤ f (12 + s) ∧ 2 * (f s + 9 * f (4 + s) + 81 * f (8 + s) + 729 * f (12 + s)) ≤ w) ∨ (dp = 4 ∧ 0 ≤ f s ∧ 0 ≤ f (4 + s) ∧ 0 ≤ f (8 + s) ∧ 0 ≤ f (12 + s) ∧ 0 ≤ f (16 + s) ∧ 2 * (f s + 9 * f (4 + s) + 81 * f (8 + s) + 729 * f (12 + s) + 6561 * f (16 + s)) ≤ w)
def okC (tx : List Int) (c : Cf) : Prop := (c.wa = 0 ∨ c.wa = 1) ∧ (c.is = 0 ∨ c.is = 1) ∧ (c.mo = 0 ∨ c.mo = 1) ∧ (0 ≤ c.dp ∧ c.dp ≤ 4) ∧ (0 ≤ c.ds ∧ c.ds ≤ 4) ∧ (0 ≤ c.p ∧ c.p ≤ tx.length ∧ tx.length ≤ 60) ∧
  ∀ s, 0 ≤ s → s < 4 → mxW c.f c.dp s (59049 * c.p)
theorem okC.b {tx : List Int} {c : Cf} (h : okC tx c) {d s : Int} (hd : 0 ≤ d ∧ d ≤ c.dp) (hs : 0 ≤ s ∧ s < 4) : 0 ≤ c.f (4 * d + s) ∧ c.f (4 * d + s) ≤ 2000000 := by
  obtain ⟨-, -, -, h4, -, h6, h7⟩ := h
  obtain w := h7 s hs.1 hs.2
  unfold mxW at w
  obtain rfl | rfl | rfl | rfl | rfl : d = 0 ∨ d = 1 ∨ d = 2 ∨ d = 3 ∨ d = 4 := by omega
  · rw [show 4 * 0 + s = s by omega]; omega
  · rw [show 4 * 1 + s = 4 + s by omega]; omega
  · rw [show 4 * 2 + s = 8 + s by omega]; omega
  · rw [show 4 * 3 + s = 12 + s by omega]; omega
  · rw [show 4 * 4 + s = 16 + s by omega]; omega
theorem mxW_A {f F : Int → Int} {dp s w w' : Int} (h : mxW f dp s w) (hs : 0 ≤ s ∧ s < 4) (hd : dp < 4) (hw : w ≤ w') (hA : ∀ j, j < 4 * (dp + 1) → F j = f j) (hB : ∀ j, 4 * (dp + 1) ≤ j → j < 4 * (dp + 1) + 4 → F j = 0) : mxW F (dp + 1) s w' := by
  unfold mxW at h ⊢
  rcases h with ⟨e, h⟩ | ⟨e, h⟩ | ⟨e, h⟩ | ⟨e, h⟩ | ⟨e, h⟩
  · subst e
    have q0 := hA s (by omega); have q1 := hB (4 + s) (by omega) (by omega)
    omega
  · subst e
    have q0 := hA s (by omega); have q1 := hA (4 + s) (by omega); have q2 := hB (8 + s) (by omega) (by omega)
    omega
  · subst e
    have q0 := hA s (by omega); have q1 := hA (4 + s) (by omega); have q2 := hA (8 + s) (by omega); have q3 := hB (12 + s) (by omega) (by omega)
    omega
  · subst e
    have q0 := hA s (by omega); have q1 := hA (4 + s) (by omega); have q2 := hA (8 + s) (by omega); have q3 := hA (12 + s) (by omega); have q4 := hB (16 + s) (by omega) (by omega)
    omega
  · omega
theorem mxW_B {f F : Int → Int} {dp s w w' n : Int} (h : mxW f dp s w) (hs : 0 ≤ s ∧ s < 4) (hn : 0 ≤ n ∧ n ≤ 9) (hw : w ≤ w') (hw2 : 0 < n → w + 118098 ≤ w') (hA : ∀ j, j < 4 * dp → F j = f j) (hB : F (4 * dp + s) = f (4 * dp + s) ∨ F (4 * dp + s) = f (4 * dp + s) + n) : mxW F dp s w' := by
  unfold mxW at h ⊢
  rcases h with ⟨e, h⟩ | ⟨e, h⟩ | ⟨e, h⟩ | ⟨e, h⟩ | ⟨e, h⟩
  · subst e
    rw [show 4 * 0 + s = s by omega] at hB
    omega
  · subst e
    rw [show 4 * 1 + s = 4 + s by omega] at hB
    have q0 := hA s (by omega)
    omega
  · subst e
    rw [show 4 * 2 + s = 8 + s by omega] at hB
    have q0 := hA s (by omega); have q1 := hA (4 + s) (by omega)
    omega
  · subst e
    rw [show 4 * 3 + s = 12 + s by omega] at hB
    have q0 := hA s (by omega); have q1 := hA (4 + s) (by omega); have q2 := hA (8 + s) (by omega)
    omega
  · subst e
    rw [show 4 * 4 + s = 16 + s by omega] at hB
    have q0 := hA s (by omega); have q1 := hA (4 + s) (by omega); have q2 := hA (8 + s) (by omega); have q3 := hA (12 + s) (by omega)
    omega
theorem mxW_D {f F : Int → Int} {dp s w w' n : Int} (h : mxW f dp s w) (hs : 0 ≤ s ∧ s < 4) (hd : 0 < dp) (hn : 0 ≤ n ∧ n ≤ 9) (hw : w ≤ w') (hA : ∀ j, j < 4 * (dp - 1) → F j = f j) (hB : F (4 * (dp - 1) + s) = f (4 * (dp - 1) + s) + n * f (4 * dp + s)) : mxW F (dp - 1) s w' := by
  have m9 : ∀ x : Int, 0 ≤ x → 0 ≤ n * x ∧ n * x ≤ 9 * x := fun x hx => ⟨Int.mul_nonneg hn.1 hx, Int.mul_le_mul_of_nonneg_right hn.2 hx⟩
  unfold mxW at h ⊢
  rcases h with ⟨e, h⟩ | ⟨e, h⟩ | ⟨e, h⟩ | ⟨e, h⟩ | ⟨e, h⟩
  · omega
  · subst e
    rw [show 4 * (1 - 1) + s = s by omega, show 4 * 1 + s = 4 + s by omega] at hB
    have hm := m9 _ h.2.1
    omega
  · subst e
    rw [show 4 * (2 - 1) + s = 4 + s by omega, show 4 * 2 + s = 8 + s by omega] at hB
    have q0 := hA s (by omega)
    have hm := m9 _ h.2.2.1
    omega
  · subst e
    rw [show 4 * (3 - 1) + s = 8 + s by omega, show 4 * 3 + s = 12 + s by omega] at hB
    have q0 := hA s (by omega); have q1 := hA (4 + s) (by omega)
    have hm := m9 _ h.2.2.2.1
    omega
  · subst e
    rw [show 4 * (4 - 1) + s = 12 + s by omega, show 4 * 4 + s = 16 + s by omega] at hB
    have q0 := hA s (by omega); have q1 := hA (4 + s) (by omega); have q2 := hA (8 + s) (by omega)
    have hm := m9 _ h.2.2.2.2.1
    omega
theorem bit_b {P : Prop} [Decidable P] : bit P = 0 ∨ bit P = 1 := by unfold bit; split <;> simp
theorem bit_1 {P : Prop} [Decidable P] (h : P) : bit P = 1 := if_pos h
theorem bit_0 {P : Prop} [Decidable P] (h : ¬ P) : bit P = 0 := if_neg h
theorem tmz_lt {tx : List Int} {p : Int} (h : 0 < tmz tx p) : p < tx.length := tS_lt (tx := tx) (p := p) (by unfold tmz at h; split at h <;> omega)
theorem tr_b {tx : List Int} {p : Int} (h : 0 ≤ p ∧ p ≤ tx.length) : (p ≤ trP tx p ∧ trP tx p ≤ tx.length) ∧ (0 ≤ trN tx p ∧ trN tx p ≤ 9) ∧ (0 ≤ trD tx p ∧ trD tx p ≤ 3) ∧ (0 < trN tx p → trP tx p = p + 2) := by
  have hb := srt_b (v := tS tx p)
  have h9 := tmz_b (tx := tx) (p := p + 1)
  unfold trP trN trD
  by_cases hs : srt (tS tx p) = -1
  · rw [if_pos hs, if_pos hs, if_pos hs]
    omega
  · rw [if_neg hs, if_neg hs, if_neg hs]
    have hl : p < tx.length := tS_lt (fun q => hs (by rw [q]; exact srt_n))
    by_cases hz : 0 < tmz tx (p + 1)
    · have hl2 := tmz_lt hz
      rw [bit_1 hz]
      omega
    · rw [bit_0 hz]
      omega
theorem okC_A {tx : List Int} {c : Cf} (h : okC tx c) (hd : c.dp < 4) (hp : c.p < tx.length) : okC tx (c.p + 1, c.dp + 1, c.ds, c.wa, c.is, c.mo, fillF c.f (4 * (c.dp + 1))) := by
  obtain ⟨h1, h2, h3, h4, h5, h6, h7⟩ := h
  exact ⟨h1, h2, h3, by show 0 ≤ c.dp + 1 ∧ c.dp + 1 ≤ 4; omega, h5, by show 0 ≤ c.p + 1 ∧ c.p + 1 ≤ _ ∧ _; omega, fun s a b => mxW_A (h7 s a b) ⟨a, b⟩ hd (by show 59049 * c.p ≤ 59049 * (c.p + 1); omega) (fun j hj => if_neg (by omega)) (fun j x y => if_pos ⟨x, y⟩)⟩
theorem okC_B {tx : List Int} {c : Cf} (h : okC tx c) {i n p ds is : Int} (hn : 0 ≤ n ∧ n ≤ 9) (hi : 0 ≤ i ∧ i ≤ 3) (hp : c.p ≤ p ∧ p ≤ tx.length) (hq : 0 < n → p = c.p + 2) (hds : 0 ≤ ds ∧ ds ≤ 4) (his : is = 0 ∨ is = 1) : okC tx (p, c.dp, ds, 0, is, c.mo, iup c.f (4 * c.dp + i) (c.f (4 * c.dp + i) + n)) := by
  obtain ⟨h1, h2, h3, h4, h5, h6, h7⟩ := h
  refine ⟨Or.inl rfl, his, h3, h4, hds, by show 0 ≤ p ∧ p ≤ _ ∧ _; omega, fun s a b => mxW_B (n := n) (h7 s a b) ⟨a, b⟩ hn (by show 59049 * c.p ≤ 59049 * p; omega) (fun q => by show 59049 * c.p + 118098 ≤ 59049 * p; have := hq q; omega) (fun j (hj : j < 4 * c.dp) => iup_n (by omega)) ?_⟩
  by_cases e : s = i
  · subst e
    exact Or.inr iup_s
  · exact Or.inl (iup_n (by omega))
theorem okC_D {tx : List Int} {c : Cf} (h : okC tx c) {n p is : Int} (hn : 0 ≤ n ∧ n ≤ 9) (hd : 0 < c.dp) (hp : c.p ≤ p ∧ p ≤ tx.length) (his : is = 0 ∨ is = 1) : okC tx (p, c.dp - 1, c.ds, c.wa, is, c.mo, clsF c.f c.dp n 4) := by
  obtain ⟨h1, h2, h3, h4, h5, h6, h7⟩ := h
  refine ⟨h1, his, h3, by show 0 ≤ c.dp - 1 ∧ c.dp - 1 ≤ 4; omega, h5, by show 0 ≤ p ∧ p ≤ _ ∧ _; omega, fun s a b => mxW_D (n := n) (h7 s a b) ⟨a, b⟩ hd hn (by show 59049 * c.p ≤ 59049 * p; omega) (fun j hj => if_neg (by omega)) ?_⟩
  show clsF c.f c.dp n 4 (4 * (c.dp - 1) + s) = _
  unfold clsF
  rw [if_pos (by omega), show 4 * (c.dp - 1) + s + 4 = 4 * c.dp + s by omega]
theorem okC_E {tx : List Int} {c : Cf} (h : okC tx c) (hd : 0 < c.dp) : okC tx (c.p, c.dp - 1, c.ds, c.wa, 0, c.mo, c.f) := by
  obtain ⟨h1, h2, h3, h4, h5, h6, h7⟩ := h
  refine ⟨h1, Or.inl rfl, h3, by show 0 ≤ c.dp - 1 ∧ c.dp - 1 ≤ 4; omega, h5, h6, fun s a b => ?_⟩
  have w := h7 s a b
  show mxW c.f (c.dp - 1) s (59049 * c.p)
  unfold mxW at w ⊢
  omega
/-- the model's memory holds such a reader -/
def mxF (M Mx : MM) (c : Cf) : Prop := Mx 0 5 = c.p ∧ Mx 9 = c.f ∧ (∀ j, j ≠ 5 → Mx 0 j = M 0 j) ∧ ∀ q, q ≠ 0 → q ≠ 9 → Mx q = M q
theorem mfill_r {M : MM} {r q : Nat} {a k z : Int} (h : q ≠ r) : mfill M r a k z q = M q := funext fun _ => if_neg (fun x => h x.1)
theorem mxF_A {M Mx : MM} {c : Cf} (h : mxF M Mx c) : mxF M (mfill (mset Mx 0 5 (c.p + 1)) 9 (4 * (c.dp + 1)) 4 0) (c.p + 1, c.dp + 1, c.ds, c.wa, c.is, c.mo, fillF c.f (4 * (c.dp + 1))) := by
  obtain ⟨h1, h2, h3, h4⟩ := h
  refine ⟨?_, ?_, fun j hj => ?_, fun q a b => ?_⟩
  · rw [mfill_r (by decide), mset_s]
  · funext j
    show mfill (mset Mx 0 5 (c.p + 1)) 9 (4 * (c.dp + 1)) 4 0 9 j = fillF c.f (4 * (c.dp + 1)) j
    unfold mfill fillF
    by_cases hj : 4 * (c.dp + 1) ≤ j ∧ j < 4 * (c.dp + 1) + 4
    · rw [if_pos ⟨rfl, hj⟩, if_pos hj]
    · rw [if_neg (fun x => hj x.2), if_neg hj, mset_r (by decide), h2]
  · rw [mfill_r (by decide), mset_k hj, h3 j hj]
  · rw [mfill_r b, mset_r a, h4 q a b]
theorem mxF_B {M Mx : MM} {c : Cf} (h : mxF M Mx c) {p i n ds wa is : Int} : mxF M (mset (mset Mx 0 5 p) 9 i (Mx 9 i + n)) (p, c.dp, ds, wa, is, c.mo, iup c.f i (c.f i + n)) := by
  obtain ⟨h1, h2, h3, h4⟩ := h
  refine ⟨?_, ?_, fun j hj => ?_, fun q a b => ?_⟩
  · rw [mset_r (by decide), mset_s]
  · rw [mset_f, mset_r (by decide), h2]
  · rw [mset_r (by decide), mset_k hj, h3 j hj]
  · rw [mset_r b, mset_r a, h4 q a b]
theorem mxF_C {M Mx : MM} {c : Cf} (h : mxF M Mx c) {p ds dp wa is mo : Int} : mxF M (mset Mx 0 5 p) (p, dp, ds, wa, is, mo, c.f) := by
  obtain ⟨h1, h2, h3, h4⟩ := h
  refine ⟨mset_s, ?_, fun j hj => ?_, fun q a b => ?_⟩
  · rw [mset_r (by decide), h2]
  · rw [mset_k hj, h3 j hj]
  · rw [mset_r a, h4 q a b]
theorem mxF_E {M Mx : MM} {c : Cf} (h : mxF M Mx c) {ds dp wa is mo : Int} : mxF M Mx (c.p, dp, ds, wa, is, mo, c.f) := h
theorem mxF_D {M Mx : MM} {c : Cf} (h : mxF M Mx c) {p q n is : Int} : mxF M (clsM (mset (mset Mx 0 5 q) 0 5 p) c.dp n 4) (p, c.dp - 1, c.ds, c.wa, is, c.mo, clsF c.f c.dp n 4) := by
  obtain ⟨h1, h2, h3, h4⟩ := h
  refine ⟨?_, ?_, fun j hj => ?_, fun q a b => ?_⟩
  · rw [clsM_r (by decide), mset_s]
  · rw [clsM_9, mset_r (by decide), mset_r (by decide), h2]
  · rw [clsM_r (by decide), mset_k hj, mset_k hj, h3 j hj]
  · rw [clsM_r b, mset_r a, mset_r a, h4 q a b]
/-- numbers of a row, told -/
def toldM (M : MM) (f : Int → Int) (k : Int) : MM := fun r j => if r = 8 ∧ 6 * M 0 6 + 1 ≤ j ∧ j < 6 * M 0 6 + 1 + k then f (j - (6 * M 0 6 + 1)) else M r j
theorem toldM_0 {M : MM} {f : Int → Int} : toldM M f 0 = M := by
  funext r j
  exact if_neg (by omega)
theorem toldM_s {M : MM} {f : Int → Int} {k : Int} (hk : 0 ≤ k) : mset (toldM M f k) 8 (6 * (toldM M f k) 0 6 + (1 + k)) (f k) = toldM M f (k + 1) := by
  have e : toldM M f k 0 6 = M 0 6 := if_neg (fun x => absurd x.1 (by decide))
  rw [e]
  funext r j
  by_cases hr : r = 8
  · subst hr
    by_cases hj : j = 6 * M 0 6 + (1 + k)
    · subst hj
      rw [mset_s]
      unfold toldM
      rw [if_pos ⟨rfl, by omega, by omega⟩]
      congr 1; omega
    · rw [mset_k hj]
      unfold toldM
      by_cases h3 : (8 : Nat) = 8 ∧ 6 * M 0 6 + 1 ≤ j ∧ j < 6 * M 0 6 + 1 + k
      · rw [if_pos h3, if_pos ⟨rfl, by omega, by omega⟩]
      · rw [if_neg h3, if_neg (by omega)]
  · rw [mset_r hr]
    unfold toldM
    rw [if_neg (fun x => hr x.1), if_neg (fun x => hr x.1)]
theorem toldM_r {M : MM} {f : Int → Int} {k : Int} {q : Nat} (h : q ≠ 8) : toldM M f k q = M q := funext fun _ => if_neg (fun x => h x.1)
/-- a step makes the reader's rest shorter, and keeps its bounds -/
theorem mxS_lt {tx : List Int} {c : Cf} (h : okC tx c) (h1 : c.is = 1 ∧ c.mo = 1) : okC tx (mxS tx c) ∧ mxM tx (mxS tx c) < mxM tx c := by
  have hp := h.2.2.2.2.2.1
  have em : mxM tx c = tx.length - c.p + 1 := if_pos h1
  have key : ∀ c' : Cf, (c'.p = c.p + 1 ∨ c'.p = c.p + 2 ∨ c'.is = 0 ∨ c'.mo = 0) → mxM tx c' < mxM tx c := fun c' hc => by
    rw [em]
    unfold mxM
    split <;> omega
  unfold mxS
  by_cases hA : (c.wa = 1 ∧ c.dp < 4) ∧ tS tx c.p = 40
  · rw [if_pos hA]
    exact ⟨okC_A h hA.1.2 (tS_lt (by omega)), key _ (Or.inl rfl)⟩
  rw [if_neg hA]
  by_cases hB : c.wa = 1
  · rw [if_pos hB]
    have t := tr_b (tx := tx) (p := c.p) ⟨hp.1, hp.2.1⟩
    have hdp := h.2.2.2.1
    have hds := h.2.2.2.2.1
    refine ⟨okC_B h t.2.1 t.2.2.1 t.1 t.2.2.2 (by split <;> omega) bit_b, key _ ?_⟩
    by_cases hz : 0 < trN tx c.p
    · exact Or.inr (Or.inl (t.2.2.2 hz))
    · exact Or.inr (Or.inr (Or.inl (bit_0 hz)))
  rw [if_neg hB]
  by_cases hC : tS tx c.p = 43
  · rw [if_pos hC]
    have hl := tS_lt (tx := tx) (p := c.p) (by omega)
    refine ⟨?_, key _ (Or.inl rfl)⟩
    obtain ⟨k1, k2, k3, k4, k5, k6, k7⟩ := h
    exact ⟨Or.inr rfl, k2, k3, k4, k5, by show 0 ≤ c.p + 1 ∧ c.p + 1 ≤ _ ∧ _; omega, fun s a b => mxW_B (n := 0) (k7 s a b) ⟨a, b⟩ (by decide) (by show 59049 * c.p ≤ 59049 * (c.p + 1); omega) (fun q => absurd q (by decide)) (fun _ _ => rfl) (Or.inl rfl)⟩
  rw [if_neg hC]
  by_cases hD : 0 < c.dp
  · rw [if_pos hD]
    by_cases hE : tS tx c.p = 41
    · rw [if_pos hE]
      have hl := tS_lt (tx := tx) (p := c.p) (by omega)
      by_cases hz : 0 < tmz tx (c.p + 1)
      · have hl2 := tmz_lt hz
        rw [bit_1 hz]
        exact ⟨okC_D h tmz_b hD (by omega) (Or.inr rfl), key _ (Or.inr (Or.inl (by show c.p + 1 + 1 = c.p + 2; omega)))⟩
      · rw [bit_0 hz]
        exact ⟨okC_D h tmz_b hD (by omega) (Or.inl rfl), key _ (Or.inr (Or.inr (Or.inl rfl)))⟩
    · rw [if_neg hE]
      exact ⟨okC_E h hD, key _ (Or.inr (Or.inr (Or.inl rfl)))⟩
  · rw [if_neg hD]
    obtain ⟨k1, k2, k3, k4, k5, k6, k7⟩ := h
    exact ⟨⟨k1, k2, Or.inl rfl, k4, k5, k6, k7⟩, key _ (Or.inr (Or.inr (Or.inr rfl)))⟩
theorem okC_i {tx : List Int} {p : Int} {f : Int → Int} (hp : 0 ≤ p ∧ p ≤ tx.length) (hl : tx.length ≤ 60) : okC tx (mxI p f) :=
  ⟨Or.inr rfl, Or.inr rfl, Or.inr rfl, by show (0 : Int) ≤ 0 ∧ (0 : Int) ≤ 4; decide, by show (0 : Int) ≤ 0 ∧ (0 : Int) ≤ 4; decide, ⟨hp.1, hp.2, hl⟩, fun s a b => Or.inl ⟨rfl, by
    show 0 ≤ fillF f 0 s ∧ 2 * fillF f 0 s ≤ 59049 * p
    unfold fillF
    rw [if_pos (by omega)]
    omega⟩⟩
end M19

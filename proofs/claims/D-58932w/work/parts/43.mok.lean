/-! THE MILL's OPERATIONS keep its bounds -/
section MOK
def ahd (r : Int → Int) (j : Int) : Int := zsum (fun o => if r j < r o ∨ (r o = r j ∧ o < j) then 1 else 0) 4
theorem ahd_perm (r : Int → Int) {L : Int} (hL : 0 ≤ L ∧ L ≤ 3) : (if ahd r 0 < L then (1 : Int) else 0) + (if ahd r 1 < L then 1 else 0) + (if ahd r 2 < L then 1 else 0) + (if ahd r 3 < L then 1 else 0) = L := by
  have z4 : ∀ f : Int → Int, zsum f 4 = 0 + f 0 + f 1 + f 2 + f 3 := fun f => rfl
  have key : ∀ i j : Int, i < j → ∃ b : Int, ((b = 1 ∧ r i < r j) ∨ (b = 0 ∧ r j ≤ r i)) ∧ (if r i < r j ∨ (r j = r i ∧ j < i) then (1 : Int) else 0) = b ∧ (if r j < r i ∨ (r i = r j ∧ i < j) then (1 : Int) else 0) = 1 - b := by
    intro i j hij
    by_cases h : r i < r j
    · exact ⟨1, Or.inl ⟨rfl, h⟩, if_pos (Or.inl h), if_neg (by omega)⟩
    · exact ⟨0, Or.inr ⟨rfl, by omega⟩, if_neg (by omega), if_pos (by omega)⟩
  have self : ∀ i : Int, (if r i < r i ∨ (r i = r i ∧ i < i) then (1 : Int) else 0) = 0 := fun i => if_neg (by omega)
  unfold ahd
  rw [z4, z4, z4, z4]
  obtain ⟨b1, h1, p1, q1⟩ := key 0 1 (by decide)
  obtain ⟨b2, h2, p2, q2⟩ := key 0 2 (by decide)
  obtain ⟨b3, h3, p3, q3⟩ := key 0 3 (by decide)
  obtain ⟨b4, h4, p4, q4⟩ := key 1 2 (by decide)
  obtain ⟨b5, h5, p5, q5⟩ := key 1 3 (by decide)
  obtain ⟨b6, h6, p6, q6⟩ := key 2 3 (by decide)
  rw [self, self, self, self, p1, p2, p3, p4, p5, p6, q1, q2, q3, q4, q5, q6]
  rcases h1 with ⟨rfl, h1⟩ | ⟨rfl, h1⟩ <;> rcases h2 with ⟨rfl, h2⟩ | ⟨rfl, h2⟩ <;> rcases h3 with ⟨rfl, h3⟩ | ⟨rfl, h3⟩ <;> rcases h4 with ⟨rfl, h4⟩ | ⟨rfl, h4⟩ <;> rcases h5 with ⟨rfl, h5⟩ | ⟨rfl, h5⟩ <;> rcases h6 with ⟨rfl, h6⟩ | ⟨rfl, h6⟩ <;> first | (exfalso; omega) | (clear p1 p2 p3 p4 p5 p6 q1 q2 q3 q4 q5 q6 h1 h2 h3 h4 h5 h6 key self z4; obtain rfl | rfl | rfl | rfl : L = 0 ∨ L = 1 ∨ L = 2 ∨ L = 3 := by omega) <;> decide
/-- parts of a recipe, as they may be -/
def okT (f : Int → Int) : Prop := 0 ≤ f 8 ∧ 0 ≤ f 9 ∧ 0 ≤ f 10 ∧ 0 ≤ f 11 ∧ 1 ≤ f 8 + f 9 + f 10 + f 11
theorem mSh_sum {f : Int → Int} (h : okT f) {n : Int} (hn : 0 ≤ n) : (mShare f n 0 + mShare f n 1 + mShare f n 2 + mShare f n 3 = n) ∧ 0 ≤ mShare f n 0 ∧ 0 ≤ mShare f n 1 ∧ 0 ≤ mShare f n 2 ∧ 0 ≤ mShare f n 3 := by
  obtain ⟨h8, h9, h10, h11, hT⟩ := h
  have z4 : ∀ f : Int → Int, zsum f 4 = 0 + f 0 + f 1 + f 2 + f 3 := fun f => rfl
  have eT : mT f = f 8 + f 9 + f 10 + f 11 := rfl
  have hq : ∀ j, 0 ≤ f (8 + j) → mT f * mQuo f n j + mRem f n j = n * f (8 + j) ∧ 0 ≤ mQuo f n j ∧ 0 ≤ mRem f n j ∧ mRem f n j < mT f := fun j hj =>
    ⟨Int.mul_ediv_add_emod _ _, Int.ediv_nonneg (Int.mul_nonneg hn hj) (by omega), Int.emod_nonneg _ (by omega), Int.emod_lt_of_pos _ (by omega)⟩
  obtain ⟨e0, a0, b0, c0⟩ := hq 0 h8
  obtain ⟨e1, a1, b1, c1⟩ := hq 1 h9
  obtain ⟨e2, a2, b2, c2⟩ := hq 2 h10
  obtain ⟨e3, a3, b3, c3⟩ := hq 3 h11
  have eL : mLeft f n = n - (mQuo f n 0 + mQuo f n 1 + mQuo f n 2 + mQuo f n 3) := by
    unfold mLeft
    rw [z4]
    omega
  have em : mT f * mLeft f n = mRem f n 0 + mRem f n 1 + mRem f n 2 + mRem f n 3 := by
    rw [eL, Int.mul_sub, Int.mul_add, Int.mul_add, Int.mul_add]
    have e5 : mT f * n = n * f 8 + n * f 9 + n * f 10 + n * f 11 := by rw [eT, Int.mul_comm, Int.mul_add, Int.mul_add, Int.mul_add]
    rw [show (8 : Int) + 0 = 8 from rfl] at e0
    rw [show (8 : Int) + 1 = 9 from rfl] at e1
    rw [show (8 : Int) + 2 = 10 from rfl] at e2
    rw [show (8 : Int) + 3 = 11 from rfl] at e3
    omega
  have hTp : 0 < mT f := by omega
  have hL0 : 0 ≤ mLeft f n := Int.not_lt.mp fun q => by
    have := Int.mul_neg_of_pos_of_neg hTp q
    omega
  have hL3 : mLeft f n ≤ 3 := Int.not_lt.mp fun q => by
    have := Int.mul_le_mul_of_nonneg_left (show (4 : Int) ≤ mLeft f n by omega) (show 0 ≤ mT f by omega)
    omega
  have hp := ahd_perm (fun j => mRem f n j) ⟨hL0, hL3⟩
  have s : ∀ j, mShare f n j = mQuo f n j + (if ahd (fun j => mRem f n j) j < mLeft f n then 1 else 0) := fun j => rfl
  have pos : ∀ j, 0 ≤ (if ahd (fun j => mRem f n j) j < mLeft f n then (1 : Int) else 0) := fun j => by split <;> decide
  have p0 := pos 0
  have p1 := pos 1
  have p2 := pos 2
  have p3 := pos 3
  rw [s, s, s, s]
  omega
theorem okSc.T {D P Q : Int} {f : Int → Int} (h : okSc D P Q f) : okT f := by
  obtain ⟨-, ⟨a, b, c, d, e, -⟩, -⟩ := h
  exact ⟨a.1, b.1, c.1, d.1, e⟩
theorem beatL_ok : ∀ (bs : List Bl) {p : Int → Int}, (∀ b ∈ bs, okB b) → (∀ j, 0 ≤ j → j < 4 → 0 ≤ p j) → ∀ b ∈ beatL p bs, okB b
  | [], _, _, _, b, h => nomatch h
  | c :: t, p, hk, hp, b, h => by
    obtain ⟨k0, k1, k2, k3⟩ := hk c List.mem_cons_self
    have hx : 0 ≤ beatX p c ∧ beatX p c ≤ c.2.1 ∧ beatX p c ≤ p c.1 := by
      have := hp c.1 k0.1 (by omega)
      unfold beatX
      split <;> omega
    have ih := beatL_ok t (p := iup p c.1 (p c.1 - beatX p c)) (fun q hq => hk q (List.mem_cons_of_mem _ hq)) (fun j a d => by
      by_cases e : j = c.1
      · subst e; rw [iup_s]; omega
      · rw [iup_n e]; exact hp j a d)
    rw [beatL_c] at h
    split at h
    · exact ih b h
    · rcases List.mem_cons.mp h with e | e
      · rw [e]
        exact ⟨k0, by show 0 ≤ c.2.1 - beatX p c ∧ c.2.1 - beatX p c ≤ 300; omega, k2, k3⟩
      · exact ih b e
theorem packL_ok {D a b c : Int} : ∀ (ps : List Pl) (l : Int), (∀ q ∈ ps, okPd D q) → ∀ q ∈ packL a b c l ps, okPd D q
  | [], _, _, q, h => nomatch h
  | x :: t, l, hk, q, h => by
    rw [packL_c] at h
    obtain ⟨k0, k1, k2, k3, k4⟩ := hk x List.mem_cons_self
    have ih := packL_ok t (a := a) (b := b) (c := c) (l - packX a b c l x) (fun y hy => hk y (List.mem_cons_of_mem _ hy))
    split at h
    · exact hk q h
    · rename_i hl
      have hx : 0 ≤ packX a b c l x ∧ packX a b c l x ≤ x.2.2.2.1 := by unfold packX; split <;> omega
      split at h
      · exact ih q h
      · rcases List.mem_cons.mp h with e | e
        · rw [e]
          exact ⟨k0, k1, k2, by show 0 ≤ x.2.2.2.1 - packX a b c l x ∧ x.2.2.2.1 - packX a b c l x ≤ 480; omega, k4⟩
        · exact ih q e
theorem delS_ok {P Q c s w z : Int} {S : St} (h : okS 999 P Q S) (hc : 0 ≤ c ∧ c ≤ 3) (hs : 0 ≤ s ∧ s ≤ 3) (hw : 10 ≤ w ∧ w ≤ 300) (hz : 0 ≤ z ∧ z ≤ 99) (hy : whyInS S c w z = 0) : okS 999 P Q (delS c s w z S) := by
  obtain ⟨k, kb, kp, kq⟩ := h
  have hd := (k.2.2.1 c hc.1 (by omega)).1
  have ht : 0 ≤ tollS S c w := by unfold tollS; split <;> omega
  have h3 : S.1 (13 + 2 * c) + tollS S c w ≤ 300 := by
    unfold whyInS at hy
    (repeat' split at hy) <;> omega
  refine ⟨k.up ⟨by omega, by omega, by omega, by omega, by omega, by omega, fun d x y => ⟨by omega, by omega⟩, fun v x y => ⟨by omega, by omega, by omega⟩, fun v x y => ⟨by omega, by omega, by omega⟩⟩, fun b hb => ?_, kp, kq⟩
  have hb : b ∈ (if mRags w z = 0 then S.2.1 else S.2.1 ++ [(s, mRags w z, z, 0)]) := hb
  split at hb
  · exact kb b hb
  · rcases List.mem_append.mp hb with e | e
    · exact kb b e
    · rw [List.mem_singleton.mp e]
      have hr := (mRags_b hw hz).2
      exact ⟨hs, hr, hz, by show (-1 : Int) ≤ 0 ∧ (0 : Int) ≤ 4; decide⟩
theorem stpS_ok {P Q v t : Int} {S : St} (h : okS 999 P Q S) (hv : 0 ≤ v ∧ v ≤ 2) (ht : 1 ≤ t ∧ t ≤ 24) (hy : S.1 (117 + 3 * v + 1) + t ≤ 48) : okS 999 P Q (stpS v t S) := by
  obtain ⟨k, kb, kp, kq⟩ := h
  have hd := (k.2.2.2.1 v hv.1 (by omega)).2.1
  exact ⟨k.up ⟨by omega, by omega, by omega, by omega, by omega, by omega, fun d x y => ⟨by omega, by omega⟩, fun v x y => ⟨by omega, by omega, by omega⟩, fun v x y => ⟨by omega, by omega, by omega⟩⟩, kb, kp, kq⟩
theorem beatS_ok {P Q v n : Int} {S : St} (h : okS 999 P Q S) (hv : 0 ≤ v ∧ v ≤ 2) (hn : 1 ≤ n ∧ n ≤ 200) : okS 999 P Q (beatS v n S) := by
  obtain ⟨k, kb, kp, kq⟩ := h
  obtain ⟨hs, s0, s1, s2, s3⟩ := mSh_sum k.T (n := n) (by omega)
  have z4 : ∀ f : Int → Int, zsum f 4 = 0 + f 0 + f 1 + f 2 + f 3 := fun f => rfl
  have hst : 0 ≤ zsum (fun j => mShare S.1 n j * strn j) 4 / n ∧ zsum (fun j => mShare S.1 n j * strn j) 4 / n ≤ 60 := by
    rw [z4]
    show 0 ≤ (0 + mShare S.1 n 0 * 50 + mShare S.1 n 1 * 30 + mShare S.1 n 2 * 60 + mShare S.1 n 3 * 10) / n ∧ (0 + mShare S.1 n 0 * 50 + mShare S.1 n 1 * 30 + mShare S.1 n 2 * 60 + mShare S.1 n 3 * 10) / n ≤ 60
    refine ⟨Int.ediv_nonneg (by omega) (by omega), Int.le_of_lt_add_one (Int.ediv_lt_of_lt_mul (by omega) ?_)⟩
    omega
  have J : ∀ j z : Int, (j < 0 ∨ 117 ≤ j ∧ j < 126) → (∀ w, 0 ≤ w → w < 3 → (j = 117 + 3 * w → 0 ≤ z ∧ z ≤ 8000) ∧ (j = 117 + 3 * w + 1 → 0 ≤ z ∧ z ≤ 48) ∧ (j = 117 + 3 * w + 2 → 0 ≤ z ∧ z ≤ 60)) → okJ 999 P Q j z := fun j z hj hw =>
    ⟨by omega, by omega, by omega, by omega, by omega, by omega, fun d x y => ⟨by omega, by omega⟩, hw, fun v x y => ⟨by omega, by omega, by omega⟩⟩
  refine ⟨((k.up (J _ _ (by omega) fun w x y => ⟨by omega, by omega, by omega⟩)).up (J _ _ (by omega) fun w x y => ⟨by omega, by omega, by omega⟩)).up (J _ _ (by omega) fun w x y => ⟨by omega, by omega, fun _ => hst⟩), beatL_ok S.2.1 kb (fun j a b => ?_), kp, kq⟩
  obtain rfl | rfl | rfl | rfl : j = 0 ∨ j = 1 ∨ j = 2 ∨ j = 3 := by omega
  · exact s0
  · exact s1
  · exact s2
  · exact s3
theorem fld {α : Type} {c : Prop} [Decidable c] {x y : α} (P : α → Prop) (hx : c → P x) (hy : ¬ c → P y) : P (if c then x else y) := by
  split
  · exact hx ‹_›
  · exact hy ‹_›
/-- the reader of mixes: the place grows; behind a term there is a part; at the end all brackets are closed -/
def okK (c : Cf) : Prop := (c.wa = 0 → c.is = 1 → 1 ≤ c.f (4 * c.dp + 0) + c.f (4 * c.dp + 1) + c.f (4 * c.dp + 2) + c.f (4 * c.dp + 3)) ∧ (c.mo = 0 → c.dp = 0 ∧ c.wa = 0)
theorem mxS_K {tx : List Int} {c : Cf} (h : okC tx c) (hk : okK c) (h1 : c.is = 1 ∧ c.mo = 1) : okK (mxS tx c) ∧ c.p ≤ (mxS tx c).p := by
  have t := tr_b (tx := tx) (p := c.p) ⟨h.2.2.2.2.2.1.1, h.2.2.2.2.2.1.2.1⟩
  have hdp := h.2.2.2.1
  have hwa := h.1
  unfold mxS
  refine fld (fun x => okK x ∧ c.p ≤ x.p) (fun hA => ⟨⟨fun e => ?_, fun e => ?_⟩, ?_⟩) (fun hA => fld (fun x => okK x ∧ c.p ≤ x.p) (fun hB => ⟨⟨fun _ e => ?_, fun e => ?_⟩, ?_⟩) (fun hB => fld (fun x => okK x ∧ c.p ≤ x.p) (fun hC => ⟨⟨fun e => ?_, fun e => ?_⟩, ?_⟩) (fun hC => fld (fun x => okK x ∧ c.p ≤ x.p) (fun hD => fld (fun x => okK x ∧ c.p ≤ x.p) (fun hE => ⟨⟨fun _ e => ?_, fun e => ?_⟩, ?_⟩) (fun hE => ⟨⟨fun _ e => ?_, fun e => ?_⟩, ?_⟩)) (fun hD => ⟨⟨fun e1 e2 => ?_, fun _ => ?_⟩, ?_⟩))))
  · exact absurd (show c.wa = 0 from e) (by omega)
  · exact absurd (show c.mo = 0 from e) (by omega)
  · show c.p ≤ c.p + 1; omega
  · have e : bit (0 < trN tx c.p) = 1 := e
    have hn : 0 < trN tx c.p := Classical.byContradiction fun q => by rw [bit_0 q] at e; exact absurd e (by decide)
    have b0 := h.b (d := c.dp) (s := 0) ⟨hdp.1, Int.le_refl _⟩ (by decide)
    have b1 := h.b (d := c.dp) (s := 1) ⟨hdp.1, Int.le_refl _⟩ (by decide)
    have b2 := h.b (d := c.dp) (s := 2) ⟨hdp.1, Int.le_refl _⟩ (by decide)
    have b3 := h.b (d := c.dp) (s := 3) ⟨hdp.1, Int.le_refl _⟩ (by decide)
    show 1 ≤ iup c.f (4 * c.dp + trD tx c.p) (c.f (4 * c.dp + trD tx c.p) + trN tx c.p) (4 * c.dp + 0) + iup c.f (4 * c.dp + trD tx c.p) (c.f (4 * c.dp + trD tx c.p) + trN tx c.p) (4 * c.dp + 1) + iup c.f (4 * c.dp + trD tx c.p) (c.f (4 * c.dp + trD tx c.p) + trN tx c.p) (4 * c.dp + 2) + iup c.f (4 * c.dp + trD tx c.p) (c.f (4 * c.dp + trD tx c.p) + trN tx c.p) (4 * c.dp + 3)
    obtain q | q | q | q : trD tx c.p = 0 ∨ trD tx c.p = 1 ∨ trD tx c.p = 2 ∨ trD tx c.p = 3 := by omega
    · rw [q, iup_s, iup_n (by omega), iup_n (by omega), iup_n (by omega)]; omega
    · rw [q, iup_s, iup_n (by omega), iup_n (by omega), iup_n (by omega)]; omega
    · rw [q, iup_s, iup_n (by omega), iup_n (by omega), iup_n (by omega)]; omega
    · rw [q, iup_s, iup_n (by omega), iup_n (by omega), iup_n (by omega)]; omega
  · exact absurd (show c.mo = 0 from e) (by omega)
  · exact t.1.1
  · exact absurd (show (1 : Int) = 0 from e) (by decide)
  · exact absurd (show c.mo = 0 from e) (by omega)
  · show c.p ≤ c.p + 1; omega
  · have e : bit (0 < tmz tx (c.p + 1)) = 1 := e
    have hn : 0 < tmz tx (c.p + 1) := Classical.byContradiction fun q => by rw [bit_0 q] at e; exact absurd e (by decide)
    have hs := hk.1 (by omega) h1.1
    have m9 : ∀ x : Int, 0 ≤ x → x ≤ tmz tx (c.p + 1) * x := fun x hx => by
      have := Int.mul_le_mul_of_nonneg_right (show (1 : Int) ≤ tmz tx (c.p + 1) by omega) hx
      omega
    have key : ∀ s, 0 ≤ s → s < 4 → c.f (4 * c.dp + s) ≤ clsF c.f c.dp (tmz tx (c.p + 1)) 4 (4 * (c.dp - 1) + s) := fun s a b => by
      unfold clsF
      rw [if_pos (by omega), show 4 * (c.dp - 1) + s + 4 = 4 * c.dp + s by omega]
      have q1 := (h.b (d := c.dp - 1) (s := s) (by omega) ⟨a, b⟩).1
      have q2 := m9 _ (h.b (d := c.dp) (s := s) ⟨hdp.1, Int.le_refl _⟩ ⟨a, b⟩).1
      omega
    have k0 := key 0 (by decide) (by decide)
    have k1 := key 1 (by decide) (by decide)
    have k2 := key 2 (by decide) (by decide)
    have k3 := key 3 (by decide) (by decide)
    show 1 ≤ clsF c.f c.dp (tmz tx (c.p + 1)) 4 (4 * (c.dp - 1) + 0) + clsF c.f c.dp (tmz tx (c.p + 1)) 4 (4 * (c.dp - 1) + 1) + clsF c.f c.dp (tmz tx (c.p + 1)) 4 (4 * (c.dp - 1) + 2) + clsF c.f c.dp (tmz tx (c.p + 1)) 4 (4 * (c.dp - 1) + 3)
    omega
  · exact absurd (show c.mo = 0 from e) (by omega)
  · show c.p ≤ c.p + 1 + bit (0 < tmz tx (c.p + 1))
    have := bit_b (P := 0 < tmz tx (c.p + 1))
    omega
  · exact absurd (show (0 : Int) = 1 from e) (by decide)
  · exact absurd (show c.mo = 0 from e) (by omega)
  · exact Int.le_refl _
  · exact hk.1 e1 e2
  · exact ⟨show c.dp = 0 by omega, show c.wa = 0 by omega⟩
  · exact Int.le_refl _
theorem mxR_K {tx : List Int} : ∀ (n : Nat) (c : Cf), okC tx c → okK c → mxM tx c ≤ n → okC tx (mxR tx n c) ∧ okK (mxR tx n c) ∧ c.p ≤ (mxR tx n c).p ∧ ¬ ((mxR tx n c).is = 1 ∧ (mxR tx n c).mo = 1)
  | 0, c, h, hk, hm => ⟨h, hk, Int.le_refl _, fun q => by
      have q : c.is = 1 ∧ c.mo = 1 := q
      unfold mxM at hm
      rw [if_pos q] at hm
      have := h.2.2.2.2.2.1
      omega⟩
  | n + 1, c, h, hk, hm => by
    by_cases q : c.is = 1 ∧ c.mo = 1
    · rw [mxR_s q]
      have a := mxS_lt h q
      have b := mxS_K h hk q
      obtain ⟨e1, e2, e3, e4⟩ := mxR_K n (mxS tx c) a.1 b.1 (by omega)
      exact ⟨e1, e2, by omega, e4⟩
    · rw [mxR_x q]
      exact ⟨h, hk, Int.le_refl _, q⟩
/-- a part as it may be -/
def okW (w : Wk) : Prop :=
  (w.1 = 61 ∧ (0 ≤ w.2.1 ∧ w.2.1 ≤ 2000000) ∧ (0 ≤ w.2.2.1 ∧ w.2.2.1 ≤ 2000000) ∧ (0 ≤ w.2.2.2.1 ∧ w.2.2.2.1 ≤ 2000000) ∧ (0 ≤ w.2.2.2.2.1 ∧ w.2.2.2.2.1 ≤ 2000000) ∧ 1 ≤ w.2.1 + w.2.2.1 + w.2.2.2.1 + w.2.2.2.2.1 ∧ (0 ≤ w.2.2.2.2.2 ∧ w.2.2.2.2.2 ≤ 4)) ∨
  (w.1 = 98 ∧ (0 ≤ w.2.1 ∧ w.2.1 ≤ 2) ∧ (1 ≤ w.2.2.1 ∧ w.2.2.1 ≤ 200)) ∨
  (w.1 = 100 ∧ (0 ≤ w.2.1 ∧ w.2.1 ≤ 3) ∧ (0 ≤ w.2.2.1 ∧ w.2.2.1 ≤ 3) ∧ (10 ≤ w.2.2.2.1 ∧ w.2.2.2.1 ≤ 300) ∧ (0 ≤ w.2.2.2.2.1 ∧ w.2.2.2.2.1 ≤ 99)) ∨
  (w.1 = 109 ∧ (0 ≤ w.2.1 ∧ w.2.1 ≤ 2) ∧ (0 ≤ w.2.2.1 ∧ w.2.2.1 ≤ 4) ∧ (1 ≤ w.2.2.2.1 ∧ w.2.2.2.1 ≤ 480)) ∨
  (w.1 = 110 ∧ (1 ≤ w.2.1 ∧ w.2.1 ≤ 20)) ∨ (w.1 = 115 ∧ (0 ≤ w.2.1 ∧ w.2.1 ≤ 2) ∧ (1 ≤ w.2.2.1 ∧ w.2.2.1 ≤ 24))
def okX (tx : List Int) (p : Int) (x : Int × Int × Wk) : Prop := (x.1 = 0 ∨ x.1 = 1) ∧ (p ≤ x.2.1 ∧ x.2.1 ≤ tx.length) ∧ (x.1 = 1 → okW x.2.2)
theorem okX.no {tx : List Int} {p q : Int} (h : p ≤ q ∧ q ≤ tx.length) : okX tx p (0, q, w0) := ⟨Or.inl rfl, h, fun e => absurd (show (0 : Int) = 1 from e) (by decide)⟩
theorem pdel_b {tx : List Int} {q : Int} (hq : 0 ≤ q ∧ q ≤ tx.length) : okX tx q (pdel tx q) := by
  unfold pdel
  refine fld (okX tx q) (fun _ => .no (by omega)) fun h1 => ?_
  have h1 : fg tx q 3 := Classical.byContradiction h1
  have l1 := tS_lt (tx := tx) (p := q) (by have := h1.1; omega)
  refine fld (okX tx q) (fun _ => .no (by omega)) fun h2 => ?_
  have l2 := tS_lt (tx := tx) (p := q + 1) (fun e => h2 (by rw [e]; exact srt_n))
  have n1 := pNum_b (tx := tx) (lo := 10) (hi := 300) (p := q + 2) (by decide) (by omega)
  refine fld (okX tx q) (fun _ => .no (by omega)) fun h3 => fld (okX tx q) (fun _ => .no (by omega)) fun h4 => ?_
  have l4 := tS_lt (tx := tx) (p := (pNum tx 10 300 (q + 2)).2.1) (by omega)
  have n2 := pNum_b (tx := tx) (lo := 0) (hi := 99) (p := (pNum tx 10 300 (q + 2)).2.1 + 1) (by decide) (by omega)
  refine fld (okX tx q) (fun _ => .no (by omega)) fun h5 => ⟨Or.inr rfl, by show q ≤ (pNum tx 0 99 ((pNum tx 10 300 (q + 2)).2.1 + 1)).2.1 ∧ (pNum tx 0 99 ((pNum tx 10 300 (q + 2)).2.1 + 1)).2.1 ≤ tx.length; omega, fun _ => Or.inr (Or.inr (Or.inl ⟨rfl, h1, ?_, ?_, ?_⟩))⟩
  · show 0 ≤ srt (tS tx (q + 1)) ∧ srt (tS tx (q + 1)) ≤ 3
    have := srt_b (v := tS tx (q + 1))
    omega
  · show 10 ≤ (pNum tx 10 300 (q + 2)).2.2 ∧ (pNum tx 10 300 (q + 2)).2.2 ≤ 300
    omega
  · show 0 ≤ (pNum tx 0 99 ((pNum tx 10 300 (q + 2)).2.1 + 1)).2.2 ∧ (pNum tx 0 99 ((pNum tx 10 300 (q + 2)).2.1 + 1)).2.2 ≤ 99
    omega
theorem pbs_b {tx : List Int} {sg c hi q : Int} (hq : 0 ≤ q ∧ q ≤ tx.length) (hc : c ≠ -1) (hs : (sg = 98 ∧ hi = 200) ∨ (sg = 115 ∧ hi = 24)) : okX tx q (pbs tx sg c hi q) := by
  unfold pbs
  refine fld (okX tx q) (fun _ => .no (by omega)) fun h1 => ?_
  have h1 : fg tx q 2 := Classical.byContradiction h1
  have l1 := tS_lt (tx := tx) (p := q) (by have := h1.1; omega)
  refine fld (okX tx q) (fun _ => .no (by omega)) fun h2 => ?_
  have l2 := tS_lt (tx := tx) (p := q + 1) (by omega)
  have n1 := pNum_b (tx := tx) (lo := 1) (hi := hi) (p := q + 2) (by decide) (by omega)
  refine fld (okX tx q) (fun _ => .no (by omega)) fun h3 => ⟨Or.inr rfl, by show q ≤ (pNum tx 1 hi (q + 2)).2.1 ∧ (pNum tx 1 hi (q + 2)).2.1 ≤ tx.length; omega, fun _ => ?_⟩
  rcases hs with ⟨e, e2⟩ | ⟨e, e2⟩
  · exact Or.inr (Or.inl ⟨e, h1, by show 1 ≤ (pNum tx 1 hi (q + 2)).2.2 ∧ (pNum tx 1 hi (q + 2)).2.2 ≤ 200; omega⟩)
  · exact Or.inr (Or.inr (Or.inr (Or.inr (Or.inr ⟨e, h1, by show 1 ≤ (pNum tx 1 hi (q + 2)).2.2 ∧ (pNum tx 1 hi (q + 2)).2.2 ≤ 24; omega⟩))))
theorem pmk_b {tx : List Int} {q : Int} (hq : 0 ≤ q ∧ q ≤ tx.length) : okX tx q (pmk tx q) := by
  unfold pmk
  refine fld (okX tx q) (fun _ => .no (by omega)) fun h1 => ?_
  have h1 : fg tx q 2 := Classical.byContradiction h1
  have l1 := tS_lt (tx := tx) (p := q) (by have := h1.1; omega)
  refine fld (okX tx q) (fun _ => .no (by omega)) fun h2 => ?_
  have h2 : fg tx (q + 1) 4 := Classical.byContradiction h2
  have l2 := tS_lt (tx := tx) (p := q + 1) (by have := h2.1; omega)
  refine fld (okX tx q) (fun _ => .no (by omega)) fun h3 => ?_
  have l3 := tS_lt (tx := tx) (p := q + 2) (by omega)
  have n1 := pNum_b (tx := tx) (lo := 1) (hi := 480) (p := q + 3) (by decide) (by omega)
  refine fld (okX tx q) (fun _ => .no (by omega)) fun h4 => ⟨Or.inr rfl, by show q ≤ (pNum tx 1 480 (q + 3)).2.1 ∧ (pNum tx 1 480 (q + 3)).2.1 ≤ tx.length; omega, fun _ => Or.inr (Or.inr (Or.inr (Or.inl ⟨rfl, h1, h2, by show 1 ≤ (pNum tx 1 480 (q + 3)).2.2 ∧ (pNum tx 1 480 (q + 3)).2.2 ≤ 480; omega⟩)))⟩
theorem pnx_b {tx : List Int} {q : Int} (hq : 0 ≤ q ∧ q ≤ tx.length) : okX tx q (pnx tx q) := by
  unfold pnx
  have n1 := pNum_b (tx := tx) (lo := 1) (hi := 20) (p := q) (by decide) hq
  refine fld (okX tx q) (fun _ => .no (by omega)) fun h4 => ⟨Or.inr rfl, by show q ≤ (pNum tx 1 20 q).2.1 ∧ (pNum tx 1 20 q).2.1 ≤ tx.length; omega, fun _ => Or.inr (Or.inr (Or.inr (Or.inr (Or.inl ⟨rfl, by show 1 ≤ (pNum tx 1 20 q).2.2 ∧ (pNum tx 1 20 q).2.2 ≤ 20; omega⟩))))⟩
theorem pmx_b {tx : List Int} {q : Int} (hq : 0 ≤ q ∧ q ≤ tx.length) (hl : tx.length ≤ 60) : okX tx q (pmx tx q) := by
  have hc := okC_i (tx := tx) (p := q) (f := fun _ => 0) hq hl
  obtain ⟨h, hk, hp, hx⟩ := mxR_K 61 (mxI q (fun _ => 0)) hc ⟨fun e => absurd (show (1 : Int) = 0 from e) (by decide), fun e => absurd (show (1 : Int) = 0 from e) (by decide)⟩ (by show (if _ then _ else _ : Int) ≤ 61; rw [if_pos ⟨rfl, rfl⟩]; show (tx.length : Int) - q + 1 ≤ 61; omega)
  refine ⟨h.2.1, ⟨hp, h.2.2.2.2.2.1.2.1⟩, fun e => Or.inl ⟨rfl, ?_⟩⟩
  have e : (mxR tx 61 (mxI q (fun _ => 0))).is = 1 := e
  have emo : (mxR tx 61 (mxI q (fun _ => 0))).mo = 0 := by
    have := h.2.2.1
    omega
  obtain ⟨ed, ew⟩ := hk.2 emo
  have hs := hk.1 ew e
  rw [ed] at hs
  have b : ∀ s, 0 ≤ s → s < 4 → 0 ≤ (mxR tx 61 (mxI q (fun _ => 0))).f s ∧ (mxR tx 61 (mxI q (fun _ => 0))).f s ≤ 2000000 := fun s x y => by
    have := h.b (d := 0) (s := s) (by omega) ⟨x, y⟩
    rw [show 4 * 0 + s = s by omega] at this
    exact this
  exact ⟨b 0 (by decide) (by decide), b 1 (by decide) (by decide), b 2 (by decide) (by decide), b 3 (by decide) (by decide), hs, h.2.2.2.2.1⟩
theorem prt_b {tx : List Int} {p : Int} (hp : 0 ≤ p ∧ p ≤ tx.length) (hl : tx.length ≤ 60) : ((prt tx p).1 = 0 ∨ (prt tx p).1 = 1) ∧ (p ≤ (prt tx p).2.1 ∧ (prt tx p).2.1 ≤ tx.length) ∧ ((prt tx p).1 = 1 → p + 1 ≤ (prt tx p).2.1 ∧ okW (prt tx p).2.2) := by
  have up : ∀ x, p < tx.length → okX tx (p + 1) x → (x.1 = 0 ∨ x.1 = 1) ∧ (p ≤ x.2.1 ∧ x.2.1 ≤ tx.length) ∧ (x.1 = 1 → p + 1 ≤ x.2.1 ∧ okW x.2.2) := fun x _ h => ⟨h.1, by have := h.2.1; omega, fun e => ⟨h.2.1.1, h.2.2 e⟩⟩
  let G : Int × Int × Wk → Prop := fun x => (x.1 = 0 ∨ x.1 = 1) ∧ (p ≤ x.2.1 ∧ x.2.1 ≤ tx.length) ∧ (x.1 = 1 → p + 1 ≤ x.2.1 ∧ okW x.2.2)
  show G (prt tx p)
  unfold prt
  refine fld G (fun h => ?_) fun _ => fld G (fun h => ?_) fun _ => fld G (fun h => ?_) fun _ => fld G (fun h => ?_) fun _ => fld G (fun h => ?_) fun _ => fld G (fun h => ?_) fun _ => ⟨Or.inl rfl, ⟨Int.le_refl _, hp.2⟩, fun e => absurd (show (0 : Int) = 1 from e) (by decide)⟩
  all_goals have l := tS_lt (tx := tx) (p := p) (by omega)
  · exact up _ l (pmx_b (by omega) hl)
  · exact up _ l (pbs_b (by omega) (by decide) (Or.inl ⟨rfl, rfl⟩))
  · exact up _ l (pdel_b (by omega))
  · exact up _ l (pmk_b (by omega))
  · exact up _ l (pnx_b (by omega))
  · exact up _ l (pbs_b (by omega) (by decide) (Or.inr ⟨rfl, rfl⟩))
end MOK

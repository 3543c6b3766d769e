/-! THE MODEL: the text's reader: parts -/
section M21
section LOOKUP
variable {C : ZC} {nL : Nat} {Φ : GH → Prop} {k n : Nat} {L : List (Option Value)} {pc pc' : Nat} {st : List Value} {cc : ByteArray} {own : String} {ret : Option FieldType} {d mc ms : Nat} {post : Option Value → GH → Prop}
theorem z_lookup (X : zX C cc own nL ret d mc ms post) {z : Int} (ha : rng z) {dflt off : Int} {ps : Array (Int × Int)} {len tgt : Nat} (hd : decode cc pc = .ok (.lookupswitch dflt ps, len)) (hp : (ps.toList.zip (ps.toList.drop 1)).all (fun (a, next) => a.1 < next.1) = true) (ho : Op.lookupswitch.offset ps.toList dflt z = off) (ht : (pc : Int) + off = (tgt : Int)) (kk : ZP C nL Φ k n L tgt st) : ZP C nL Φ k n L pc (vI z :: st) := by
  obtain ⟨p, l, e, R, s, m, args, below, meth, c, g, Q⟩ := C
  obtain ⟨hx, hb, hml, hown, hts, hret, hlk, hK, hR, hQ⟩ := X
  intro h H locs cells slots ls h1 h2 h3 h4 h5 h6
  exact lv_lookup hx hb hd hp (by rw [jI_int ha]; exact ho) ht (kk h H locs cells slots ls h1 h2 h3 h4 h5 h6)
end LOOKUP
abbrev Wk : Type := Int × Int × Int × Int × Int × Int
def w0 : Wk := (0, 0, 0, 0, 0, 0)
/-- a number read: whether, the place behind, the number -/
def pNum (tx : List Int) (lo hi p : Int) : Int × Int × Int := if ((if 0 < lo then (1 : Int) else 0) ≤ tS tx p - 48 ∧ tS tx p - 48 ≤ 9) ∧ tS tx p - 48 ≤ hi then ((if lo ≤ (nR tx hi p).1 then 1 else 0), (nR tx hi p).2, (nR tx hi p).1) else (0, p, 0)
theorem pNum_y {tx : List Int} {lo hi p : Int} (h : nFst tx lo hi p) : pNum tx lo hi p = ((if lo ≤ (nR tx hi p).1 then 1 else 0), (nR tx hi p).2, (nR tx hi p).1) := if_pos h
theorem pNum_n {tx : List Int} {lo hi p : Int} (h : ¬ nFst tx lo hi p) : pNum tx lo hi p = (0, p, 0) := if_neg h
theorem nGo_b {tx : List Int} {hi : Int} : ∀ (n : Nat) (v p : Int), 0 ≤ v ∧ v ≤ hi → p ≤ tx.length → (p ≤ (nGo tx hi n v p).2 ∧ (nGo tx hi n v p).2 ≤ tx.length) ∧ 0 ≤ (nGo tx hi n v p).1 ∧ (nGo tx hi n v p).1 ≤ hi
  | 0, v, p, hv, hp => ⟨⟨Int.le_refl _, hp⟩, hv⟩
  | n + 1, v, p, hv, hp => by
    by_cases hc : (0 < v ∧ 48 ≤ tS tx p ∧ tS tx p ≤ 57) ∧ 10 * v + tS tx p - 48 ≤ hi
    · rw [nGo_s hc]
      have hl := tS_lt (tx := tx) (p := p) (by omega)
      have q := nGo_b (tx := tx) (hi := hi) n (10 * v + tS tx p - 48) (p + 1) (by omega) (by omega)
      omega
    · rw [nGo_x hc]
      exact ⟨⟨Int.le_refl _, hp⟩, hv⟩
theorem pNum_b {tx : List Int} {lo hi p : Int} (hlo : 0 ≤ lo) (hp : 0 ≤ p ∧ p ≤ tx.length) : ((pNum tx lo hi p).1 = 0 ∨ (pNum tx lo hi p).1 = 1) ∧ (p ≤ (pNum tx lo hi p).2.1 ∧ (pNum tx lo hi p).2.1 ≤ tx.length) ∧ ((pNum tx lo hi p).1 = 1 → p + 1 ≤ (pNum tx lo hi p).2.1 ∧ lo ≤ (pNum tx lo hi p).2.2 ∧ (pNum tx lo hi p).2.2 ≤ hi) := by
  by_cases hf : nFst tx lo hi p
  · rw [pNum_y hf]
    have hf' := hf
    unfold nFst at hf'
    have h0 : 0 ≤ tS tx p - 48 := by split at hf' <;> omega
    have hl := tS_lt (tx := tx) (p := p) (by omega)
    have q := nGo_b (tx := tx) (hi := hi) 61 (tS tx p - 48) (p + 1) (by omega) (by omega)
    show ((if lo ≤ (nR tx hi p).1 then (1 : Int) else 0) = 0 ∨ (if lo ≤ (nR tx hi p).1 then (1 : Int) else 0) = 1) ∧ (p ≤ (nR tx hi p).2 ∧ (nR tx hi p).2 ≤ tx.length) ∧ ((if lo ≤ (nR tx hi p).1 then (1 : Int) else 0) = 1 → p + 1 ≤ (nR tx hi p).2 ∧ lo ≤ (nR tx hi p).1 ∧ (nR tx hi p).1 ≤ hi)
    have q1 : p + 1 ≤ (nR tx hi p).2 ∧ (nR tx hi p).2 ≤ tx.length := q.1
    have q2 : (nR tx hi p).1 ≤ hi := q.2.2
    split <;> omega
  · rw [pNum_n hf]
    exact ⟨Or.inl rfl, ⟨Int.le_refl p, hp.2⟩, fun q => absurd (show (0 : Int) = 1 from q) (by decide)⟩
/-- what a reading method keeps: all but place, told from k on, mix -/
def pfk (M M' : MM) (k : Int) : Prop := (∀ j, j ≠ 5 → M' 0 j = M 0 j) ∧ (∀ q, q ≠ 0 → q ≠ 8 → q ≠ 9 → M' q = M q) ∧ ∀ j, j < 6 * M 0 6 + k → M' 8 j = M 8 j
theorem pfk.tr {M M1 M2 : MM} {k k' : Int} (h : pfk M M1 k) (h' : pfk M1 M2 k') (hk : k ≤ k') : pfk M M2 k := by
  obtain ⟨a, b, c⟩ := h
  obtain ⟨a', b', c'⟩ := h'
  have e := a 6 (by decide)
  exact ⟨fun j hj => (a' j hj).trans (a j hj), fun q x y z => (b' q x y z).trans (b q x y z), fun j hj => (c' j (by omega)).trans (c j hj)⟩
theorem pfk.ml {M M1 : MM} {k k' : Int} (h : pfk M M1 k) (hk : k' ≤ k) : pfk M M1 k' := ⟨h.1, h.2.1, fun j hj => h.2.2 j (by omega)⟩
theorem pfk.tx {M M1 : MM} {k : Int} {tx : List Int} (h : pfk M M1 k) (ht : tRep M tx) : tRep M1 tx := ⟨(h.1 2 (by decide)).trans ht.1, ht.2.1, fun i c hi => by rw [h.2.1 7 (by decide) (by decide) (by decide)]; exact ht.2.2 i c hi⟩
theorem pfk.m {M M1 : MM} {k : Int} (h : pfk M M1 k) (hm : 0 ≤ M 0 6 ∧ M 0 6 ≤ 30) : 0 ≤ M1 0 6 ∧ M1 0 6 ≤ 30 := by rw [h.1 6 (by decide)]; exact hm
theorem pfk.of {M M' : MM} {k p v : Int} (h : M' = mset (mset M 0 5 p) 8 (6 * M 0 6 + k) v) : M' 0 5 = p ∧ pfk M M' k ∧ M' 8 (6 * M 0 6 + k) = v := by
  subst h
  exact ⟨by rw [mset_r (by decide), mset_s], ⟨fun j hj => by rw [mset_r (by decide), mset_k hj], fun q x y z => by rw [mset_r y, mset_r x], fun j hj => by rw [mset_k (by omega), mset_r (by decide)]⟩, mset_s⟩
theorem pfk.sp {M M' : MM} {p : Int} (k : Int) (h : M' = mset M 0 5 p) : M' 0 5 = p ∧ pfk M M' k := by
  subst h
  exact ⟨mset_s, fun j hj => mset_k hj, fun q x y z => mset_r x, fun j hj => by rw [mset_r (by decide)]⟩
theorem num_end {M M' : MM} {tx : List Int} {lo hi p k r : Int} (h5 : M 0 5 = p) (h : (¬ nFst tx lo hi p ∧ r = 0 ∧ M' = M) ∨ (nFst tx lo hi p ∧ M' = mset (mset M 0 5 (nR tx hi p).2) 8 (6 * M 0 6 + k) (nR tx hi p).1 ∧ ((r = 1 ∧ lo ≤ (nR tx hi p).1) ∨ (r = 0 ∧ ¬ lo ≤ (nR tx hi p).1)))) : r = (pNum tx lo hi p).1 ∧ M' 0 5 = (pNum tx lo hi p).2.1 ∧ pfk M M' k ∧ ((pNum tx lo hi p).1 = 1 → M' 8 (6 * M 0 6 + k) = (pNum tx lo hi p).2.2) := by
  rcases h with ⟨a, b, c⟩ | ⟨a, b, c⟩
  · rw [pNum_n a, b, c]
    exact ⟨rfl, h5, ⟨fun _ _ => rfl, fun _ _ _ _ => rfl, fun _ _ => rfl⟩, fun q => absurd (show (0 : Int) = 1 from q) (by decide)⟩
  · rw [pNum_y a]
    obtain ⟨e1, e2, e3⟩ := pfk.of b
    refine ⟨?_, e1, e2, fun _ => e3⟩
    show r = if lo ≤ (nR tx hi p).1 then 1 else 0
    split <;> omega
/-- a part told in the row, from place b on -/
def tellW (T : Int → Int) (b : Int) (w : Wk) : Prop := T b = w.1 ∧ T (b + 1) = w.2.1 ∧ (w.1 ≠ 110 → T (b + 2) = w.2.2.1) ∧ (w.1 = 61 ∨ w.1 = 100 ∨ w.1 = 109 → T (b + 3) = w.2.2.2.1) ∧ (w.1 = 61 ∨ w.1 = 100 → T (b + 4) = w.2.2.2.2.1) ∧ (w.1 = 61 → T (b + 5) = w.2.2.2.2.2)
abbrev fg (tx : List Int) (p hi : Int) : Prop := 0 ≤ tS tx p - 48 ∧ tS tx p - 48 ≤ hi
def pdel (tx : List Int) (q : Int) : Int × Int × Wk :=
  if ¬ fg tx q 3 then (0, q, w0) else if srt (tS tx (q + 1)) = -1 then (0, q + 1, w0) else if (pNum tx 10 300 (q + 2)).1 = 0 then (0, (pNum tx 10 300 (q + 2)).2.1, w0)
  else if tS tx (pNum tx 10 300 (q + 2)).2.1 ≠ 47 then (0, (pNum tx 10 300 (q + 2)).2.1, w0) else if (pNum tx 0 99 ((pNum tx 10 300 (q + 2)).2.1 + 1)).1 = 0 then (0, (pNum tx 0 99 ((pNum tx 10 300 (q + 2)).2.1 + 1)).2.1, w0)
  else (1, (pNum tx 0 99 ((pNum tx 10 300 (q + 2)).2.1 + 1)).2.1, (100, tS tx q - 48, srt (tS tx (q + 1)), (pNum tx 10 300 (q + 2)).2.2, (pNum tx 0 99 ((pNum tx 10 300 (q + 2)).2.1 + 1)).2.2, 0))
def pbs (tx : List Int) (sg c hi q : Int) : Int × Int × Wk :=
  if ¬ fg tx q 2 then (0, q, w0) else if tS tx (q + 1) ≠ c then (0, q + 1, w0) else if (pNum tx 1 hi (q + 2)).1 = 0 then (0, (pNum tx 1 hi (q + 2)).2.1, w0)
  else (1, (pNum tx 1 hi (q + 2)).2.1, (sg, tS tx q - 48, (pNum tx 1 hi (q + 2)).2.2, 0, 0, 0))
def pmk (tx : List Int) (q : Int) : Int × Int × Wk :=
  if ¬ fg tx q 2 then (0, q, w0) else if ¬ fg tx (q + 1) 4 then (0, q + 1, w0) else if tS tx (q + 2) ≠ 42 then (0, q + 2, w0) else if (pNum tx 1 480 (q + 3)).1 = 0 then (0, (pNum tx 1 480 (q + 3)).2.1, w0)
  else (1, (pNum tx 1 480 (q + 3)).2.1, (109, tS tx q - 48, tS tx (q + 1) - 48, (pNum tx 1 480 (q + 3)).2.2, 0, 0))
def pnx (tx : List Int) (q : Int) : Int × Int × Wk := if (pNum tx 1 20 q).1 = 0 then (0, (pNum tx 1 20 q).2.1, w0) else (1, (pNum tx 1 20 q).2.1, (110, (pNum tx 1 20 q).2.2, 0, 0, 0, 0))
def pmx (tx : List Int) (q : Int) : Int × Int × Wk := ((mxE tx q (fun _ => 0)).is, (mxE tx q (fun _ => 0)).p, (61, (mxE tx q (fun _ => 0)).f 0, (mxE tx q (fun _ => 0)).f 1, (mxE tx q (fun _ => 0)).f 2, (mxE tx q (fun _ => 0)).f 3, (mxE tx q (fun _ => 0)).ds))
/-- a part read: whether, the place behind, the part -/
def prt (tx : List Int) (p : Int) : Int × Int × Wk :=
  if tS tx p = 61 then pmx tx (p + 1) else if tS tx p = 98 then pbs tx 98 42 200 (p + 1) else if tS tx p = 100 then pdel tx (p + 1) else if tS tx p = 109 then pmk tx (p + 1) else if tS tx p = 110 then pnx tx (p + 1) else if tS tx p = 115 then pbs tx 115 58 24 (p + 1) else (0, p, w0)
/-- the reader of mixes does not look at what is in the row before -/
def agr (c c' : Cf) : Prop := c.p = c'.p ∧ c.dp = c'.dp ∧ c.ds = c'.ds ∧ c.wa = c'.wa ∧ c.is = c'.is ∧ c.mo = c'.mo ∧ ∀ j, 0 ≤ j → j < 4 * (c.dp + 1) → c.f j = c'.f j
theorem mxS_agr {tx : List Int} {c c' : Cf} (h : agr c c') (hd : 0 ≤ c.dp) : agr (mxS tx c) (mxS tx c') ∧ (c.dp ≤ 4 → c.mo = 1 → 0 ≤ (mxS tx c).dp) := by
  obtain ⟨p, dp, ds, wa, is, mo, f⟩ := c
  obtain ⟨p', dp', ds', wa', is', mo', f'⟩ := c'
  obtain ⟨h1, h2, h3, h4, h5, h6, h7⟩ := h
  have h1 : p = p' := h1
  have h2 : dp = dp' := h2
  have h3 : ds = ds' := h3
  have h4 : wa = wa' := h4
  have h5 : is = is' := h5
  have h6 : mo = mo' := h6
  have hd : 0 ≤ dp := hd
  have h7 : ∀ j, 0 ≤ j → j < 4 * (dp + 1) → f j = f' j := h7
  subst h1 h2 h3 h4 h5 h6
  have g7 : ∀ j, 0 ≤ j → j < 4 * (dp + 1) → f j = f' j := h7
  have htr : 0 ≤ trD tx p ∧ trD tx p ≤ 3 := by
    have := srt_b (v := tS tx p)
    unfold trD
    split <;> omega
  unfold mxS
  show agr (if (wa = 1 ∧ dp < 4) ∧ tS tx p = 40 then _ else _) (if (wa = 1 ∧ dp < 4) ∧ tS tx p = 40 then _ else _) ∧ (_ → _ → 0 ≤ Cf.dp (if (wa = 1 ∧ dp < 4) ∧ tS tx p = 40 then _ else _))
  by_cases hA : (wa = 1 ∧ dp < 4) ∧ tS tx p = 40
  · rw [if_pos hA, if_pos hA]
    refine ⟨⟨rfl, rfl, rfl, rfl, rfl, rfl, fun j a b => ?_⟩, fun _ _ => by show 0 ≤ dp + 1; omega⟩
    show fillF f (4 * (dp + 1)) j = fillF f' (4 * (dp + 1)) j
    have b : j < 4 * (dp + 1 + 1) := b
    unfold fillF
    by_cases q : 4 * (dp + 1) ≤ j ∧ j < 4 * (dp + 1) + 4
    · rw [if_pos q, if_pos q]
    · rw [if_neg q, if_neg q]; exact h7 j a (by omega)
  rw [if_neg hA, if_neg hA]
  by_cases hB : wa = 1
  · rw [if_pos (show Cf.wa (p, dp, ds, wa, is, mo, f) = 1 from hB), if_pos (show Cf.wa (p, dp, ds, wa, is, mo, f') = 1 from hB)]
    refine ⟨⟨rfl, rfl, rfl, rfl, rfl, rfl, fun j a b => ?_⟩, fun _ _ => hd⟩
    show iup f (4 * dp + trD tx p) (f (4 * dp + trD tx p) + trN tx p) j = iup f' (4 * dp + trD tx p) (f' (4 * dp + trD tx p) + trN tx p) j
    have b : j < 4 * (dp + 1) := b
    rw [g7 (4 * dp + trD tx p) (by omega) (by omega)]
    by_cases q : j = 4 * dp + trD tx p
    · subst q; rw [iup_s, iup_s]
    · rw [iup_n q, iup_n q]; exact h7 j a b
  rw [if_neg (show ¬ Cf.wa (p, dp, ds, wa, is, mo, f) = 1 from hB), if_neg (show ¬ Cf.wa (p, dp, ds, wa, is, mo, f') = 1 from hB)]
  show agr (if tS tx p = 43 then _ else _) (if tS tx p = 43 then _ else _) ∧ (_ → _ → 0 ≤ Cf.dp (if tS tx p = 43 then _ else _))
  by_cases hC : tS tx p = 43
  · rw [if_pos hC, if_pos hC]
    exact ⟨⟨rfl, rfl, rfl, rfl, rfl, rfl, h7⟩, fun _ _ => hd⟩
  rw [if_neg hC, if_neg hC]
  show agr (if 0 < dp then _ else _) (if 0 < dp then _ else _) ∧ (_ → _ → 0 ≤ Cf.dp (if 0 < dp then _ else _))
  by_cases hD : 0 < dp
  · rw [if_pos hD, if_pos hD]
    show agr (if tS tx p = 41 then _ else _) (if tS tx p = 41 then _ else _) ∧ (_ → _ → 0 ≤ Cf.dp (if tS tx p = 41 then _ else _))
    by_cases hE : tS tx p = 41
    · rw [if_pos hE, if_pos hE]
      refine ⟨⟨rfl, rfl, rfl, rfl, rfl, rfl, fun j a b => ?_⟩, fun _ _ => by show 0 ≤ dp - 1; omega⟩
      show clsF f dp (tmz tx (p + 1)) 4 j = clsF f' dp (tmz tx (p + 1)) 4 j
      have b : j < 4 * (dp - 1 + 1) := b
      unfold clsF
      by_cases q : 4 * (dp - 1) ≤ j ∧ j < 4 * (dp - 1) + 4
      · rw [if_pos q, if_pos q, g7 j a (by omega), g7 (j + 4) (by omega) (by omega)]
      · rw [if_neg q, if_neg q]; exact h7 j a (by omega)
    · rw [if_neg hE, if_neg hE]
      refine ⟨⟨rfl, rfl, rfl, rfl, rfl, rfl, fun j a b => ?_⟩, fun _ _ => by show 0 ≤ dp - 1; omega⟩
      have b : j < 4 * (dp - 1 + 1) := b
      exact h7 j a (by omega)
  · rw [if_neg hD, if_neg hD]
    exact ⟨⟨rfl, rfl, rfl, rfl, rfl, rfl, h7⟩, fun _ _ => hd⟩
theorem mxR_agr {tx : List Int} : ∀ (n : Nat) (c c' : Cf), agr c c' → okC tx c → agr (mxR tx n c) (mxR tx n c')
  | 0, _, _, h, _ => h
  | n + 1, c, c', h, hk => by
    by_cases q : c.is = 1 ∧ c.mo = 1
    · rw [mxR_s q, mxR_s (by obtain ⟨-, -, -, -, e5, e6, -⟩ := h; omega)]
      exact mxR_agr n _ _ (mxS_agr h hk.2.2.2.1.1).1 (mxS_lt hk q).1
    · rw [mxR_x q, mxR_x (by obtain ⟨-, -, -, -, e5, e6, -⟩ := h; omega)]
      exact h
theorem mxE_agr {tx : List Int} {p : Int} {f : Int → Int} (hp : 0 ≤ p ∧ p ≤ tx.length) (hl : tx.length ≤ 60) : agr (mxE tx p f) (mxE tx p (fun _ => 0)) ∧ 0 ≤ (mxE tx p f).dp := by
  have ho : ∀ (n : Nat) (c : Cf), okC tx c → okC tx (mxR tx n c) := by
    intro n
    induction n with
    | zero => intro c hc; exact hc
    | succ n ih =>
      intro c hc
      by_cases q : c.is = 1 ∧ c.mo = 1
      · rw [mxR_s q]; exact ih _ (mxS_lt hc q).1
      · rw [mxR_x q]; exact hc
  refine ⟨mxR_agr 61 _ _ ⟨rfl, rfl, rfl, rfl, rfl, rfl, fun j a b => ?_⟩ (okC_i hp hl), (ho 61 _ (okC_i hp hl)).2.2.2.1.1⟩
  show fillF f 0 j = fillF (fun _ => 0) 0 j
  have b : j < 4 * (0 + 1) := b
  unfold fillF
  rw [if_pos (by omega), if_pos (by omega)]
theorem part_0 {M : MM} {p s : Int} : pfk M (mset (mset M 8 (6 * M 0 6 + 0) s) 0 5 (p + 1)) 0 ∧ (mset (mset M 8 (6 * M 0 6 + 0) s) 0 5 (p + 1)) 8 (6 * M 0 6) = s :=
  ⟨⟨fun j hj => by rw [mset_k hj, mset_r (by decide)], fun q x y z => by rw [mset_r x, mset_r y], fun j hj => by rw [mset_r (by decide), mset_k (by omega)]⟩, by rw [mset_r (by decide), Int.add_zero, mset_s]⟩
/-- a method that reads a text's part, ends so -/
def prtP (tx : List Int) (M : MM) (x : Int × Int × Wk) (r : Int) (M' : MM) : Prop := r = x.1 ∧ M' 0 5 = x.2.1 ∧ pfk M M' 0 ∧ (x.1 = 1 → tellW (M' 8) (6 * M 0 6) x.2.2)
theorem Y_X8_isPart : zYV yX8_isPart cX8_isPart 2 (some .boolean) 0 := ⟨⟨q2608, qs98, q132, q2609⟩, by decide +kernel, by decide⟩
set_option maxRecDepth 100000 in
theorem c_X8_isPart (l : Launch) (g : zG) (ma : Nat → Nat) (M : MM) (p : Int) (tx : List Int) (ht : tRep M tx) (hp : M 0 5 = p ∧ 0 ≤ p ∧ p ≤ tx.length) (hk : ∀ c ∈ tx, 32 ≤ c ∧ c ≤ 126) (hm : 0 ≤ M 0 6 ∧ M 0 6 ≤ 30) : mInt l yX8_isPart cX8_isPart 2 (some .boolean) 5 [vR (ma 0)] g ma M (fun r M' => prtP tx M (prt tx p) r M') := by
  refine mInt.mk (L0 := [some (vR (ma 0)), none]) (by decide) rfl (Nat.le_of_ble_eq_true rfl) rfl (fun C h hg hl hR X => ?_)
  subst hg hl
  obtain ⟨hp1, hp2⟩ := hp
  have hl2 := ht.1
  have hl3 := ht.2.1
  have htb := tS_b hk hp2.1
  refine z_aload_n (pc' := 1) X dX8_isPart_0 rfl rfl ?_
  have hv1 := hR 0 5
  refine z_mget (pc' := 4) X 12 rfl (by decide) q2075 rfl dX8_isPart_1 rfl ?_
  rw [hp1]
  rw [hp1] at hv1
  refine z_aload_n (pc' := 5) X dX8_isPart_4 rfl rfl ?_
  have hv5 := hR 0 2
  refine z_mget (pc' := 8) X 9 rfl (by decide) q2072 rfl dX8_isPart_5 rfl ?_
  refine z_icmp_ne (tgt := 13) (pc' := 11) X (by first | assumption | omega) (by first | assumption | omega) dX8_isPart_8 rfl (by decide) (fun c8 => ?_) (fun c8 => ?_)
  · refine z_aload_n (pc' := 14) X dX8_isPart_13 rfl rfl ?_
    refine z_mget (pc' := 17) X 8 rfl (by decide) q2071 rfl dX8_isPart_14 rfl ?_
    refine z_aload_n (pc' := 18) X dX8_isPart_17 rfl rfl ?_
    have hv18 := hR 0 5
    refine z_mget (pc' := 21) X 12 rfl (by decide) q2075 rfl dX8_isPart_18 rfl ?_
    rw [hp1]
    rw [hp1] at hv18
    refine z_mld (pc' := 22) X (r := 7) (by decide) (show 0 ≤ _ ∧ _ < (60 : Int) by omega) dX8_isPart_21 rfl (fun hv21 => ?_)
    have hpl : p < tx.length := by omega
    have e21 := tS_at ht (p := p) (by omega)
    rw [e21]
    rw [e21] at hv21
    refine z_istore_n (pc' := 23) X dX8_isPart_22 rfl (by decide) rfl ?_
    dsimp only [List.set]
    refine z_aload_n (pc' := 24) X dX8_isPart_23 rfl rfl ?_
    refine z_iconst (pc' := 25) X dX8_isPart_24 rfl ?_
    refine z_iload_n (pc' := 26) X dX8_isPart_25 rfl rfl ?_
    refine z_V_void2 (pc' := 29) X rfl Y_X8_isTold q2610 dX8_isPart_26 rfl (by decide) (Nat.le_refl _) (Nat.le_refl _) (Nat.le_of_ble_eq_true rfl) (c_X8_isTold _ _ _ _ 0 (tS tx p) (by decide) (by omega) hm) (fun M26 hp26 hR26 => ?_)
    rw [show (0 : Int) = 0 from rfl] at hp26
    subst hp26
    refine z_aload_n (pc' := 30) X dX8_isPart_29 rfl rfl ?_
    refine z_dup (pc' := 31) X rfl dX8_isPart_30 rfl ?_
    have hv31 := hR26 0 5
    refine z_mget (pc' := 34) X 12 rfl (by decide) q2075 rfl dX8_isPart_31 rfl ?_
    rw [mset_r (by decide), hp1]
    rw [mset_r (by decide), hp1] at hv31
    refine z_iconst (pc' := 35) X dX8_isPart_34 rfl ?_
    refine z_iadd (pc' := 36) X dX8_isPart_35 rfl ?_
    refine z_mput (pc' := 39) X 12 5 rfl (by decide) q2075 rfl rfl rfl (by first | assumption | omega) dX8_isPart_36 rfl (fun hR36 => ?_)
    obtain ⟨hfA, htA⟩ := part_0 (M := M) (p := p) (s := tS tx p)
    have hsA : mset (mset M 8 (6 * M 0 6 + 0) (tS tx p)) 0 5 (p + 1) 0 5 = p + 1 := mset_s
    refine z_iload_n (pc' := 40) X dX8_isPart_39 rfl rfl ?_
    by_cases s40_61 : tS tx p = 61
    · refine z_lookup (off := 60) (tgt := 100) X (by first | assumption | omega) dX8_isPart_40 (by decide) (by rw [s40_61]; decide) (by decide) ?_
      refine z_aload_n (pc' := 101) X dX8_isPart_100 rfl rfl ?_
      refine z_V_int0 (pc' := 104) X rfl Y_X8_isMix q2614 dX8_isPart_101 rfl (by decide) (Nat.le_refl _) (Nat.le_refl _) (Nat.le_of_ble_eq_true rfl) (c_X8_isMix _ _ _ _ (p + 1) tx (hfA.tx ht) ⟨hsA, by omega, by omega⟩ hk (hfA.m hm)) (fun r101 M101 hr101 hp101 hR101 => ?_)
      have hm6A := hfA.1 6 (by decide)
      rw [show (mset (mset M 8 (6 * M 0 6 + 0) (tS tx p)) 0 5 (p + 1)) 9 = M 9 by rw [mset_r (by decide), mset_r (by decide)], hm6A] at hp101
      have h1_101 := hp101.1
      have hb101 := hp101.2.2.2.2.2.2.2.2.1
      refine z_zreturn X dX8_isPart_104 (by first | exact nar_0 | exact nar_1 | exact nar_b (by omega)) (Nat.le_refl _) (Nat.le_refl _) (fun _ hh => ⟨_, hh, _, rfl, ?_, ?_⟩)
      · first | assumption | omega
      · have eP : prt tx p = pmx tx (p + 1) := by unfold prt; rw [if_pos s40_61]
        rw [eP]
        obtain ⟨m1, m2, m3, m4, m5, m6, m7, m8⟩ := hp101
        obtain ⟨⟨g1, g2, g3, g4, g5, g6, g7⟩, gd⟩ := mxE_agr (tx := tx) (p := p + 1) (f := M 9) ⟨by omega, by omega⟩ hl3
        exact ⟨m1.trans g5, m2.trans g1, hfA.tr ⟨m3, m4, fun j hj => m7 j (Or.inl (by omega))⟩ (Int.le_refl 0), fun _ => ⟨(m7 _ (by omega)).trans (htA.trans s40_61), (by have q := m5 0 (by decide) (by decide); rw [show 6 * M 0 6 + 1 + 0 = 6 * M 0 6 + 1 by omega] at q; exact q.trans (g7 0 (by decide) (by omega))), (fun _ => by have q := m5 1 (by decide) (by decide); rw [show 6 * M 0 6 + 1 + 1 = 6 * M 0 6 + 2 by omega] at q; exact q.trans (g7 1 (by decide) (by omega))), (fun _ => by have q := m5 2 (by decide) (by decide); rw [show 6 * M 0 6 + 1 + 2 = 6 * M 0 6 + 3 by omega] at q; exact q.trans (g7 2 (by decide) (by omega))), (fun _ => by have q := m5 3 (by decide) (by decide); rw [show 6 * M 0 6 + 1 + 3 = 6 * M 0 6 + 4 by omega] at q; exact q.trans (g7 3 (by decide) (by omega))), fun _ => m6.trans g3⟩⟩
    by_cases s40_98 : tS tx p = 98
    · refine z_lookup (off := 121) (tgt := 161) X (by first | assumption | omega) dX8_isPart_40 (by decide) (by rw [s40_98]; decide) (by decide) ?_
      refine z_aload_n (pc' := 162) X dX8_isPart_161 rfl rfl ?_
      refine z_iconst (pc' := 163) X dX8_isPart_162 rfl ?_
      refine z_iconst (pc' := 164) X dX8_isPart_163 rfl ?_
      refine z_V_int2 (pc' := 167) X rfl Y_X8_isFigure q2645 dX8_isPart_164 rfl (by decide) (Nat.le_refl _) (Nat.le_refl _) (Nat.le_of_ble_eq_true rfl) (c_X8_isFigure _ _ _ _ 1 2 (p + 1) tx (hfA.tx ht) ⟨hsA, by omega, by omega⟩ hk (by decide) (hfA.m hm) (by decide)) (fun r164 M164 hr164 hp164 hR164 => ?_)
      obtain ⟨a164, g164⟩ := hp164
      obtain ⟨hs164, b164, t164⟩ := pfk.of a164
      have hf164 : pfk M M164 0 := hfA.tr b164 (by decide)
      have e6_164 := hfA.1 6 (by decide)
      rw [e6_164] at t164
      refine z_if_eq (tgt := 195) (pc' := 170) X (by first | assumption | omega) dX8_isPart_167 rfl (by decide) (fun c167 => ?_) (fun c167 => ?_)
      · refine z_iconst (pc' := 196) X dX8_isPart_195 rfl ?_
        refine z_zreturn X dX8_isPart_196 (by first | exact nar_0 | exact nar_1 | exact nar_b (by omega)) (Nat.le_refl _) (Nat.le_refl _) (fun _ hh => ⟨_, hh, _, rfl, ?_, ?_⟩)
        · first | assumption | omega
        · have eP : prt tx p = (0, p + 1, w0) := by
            unfold prt
            rw [if_neg (fun q => absurd (s40_98.symm.trans q) (by decide))]
            rw [if_pos s40_98]
            unfold pbs
            rw [if_pos (fun q => by have q1 := q.1; have q2 := q.2; omega)]
          rw [eP]
          exact ⟨rfl, (by show _ = p + 1; first | exact hs164 | omega), hf164, fun q => absurd (show (0 : Int) = 1 from q) (by decide)⟩
      · have z164 : r164 = 1 := by omega
        rw [z164] at hs164
        have l164 := tS_lt (tx := tx) (p := p + 1) (by omega)
        refine z_aload_n (pc' := 171) X dX8_isPart_170 rfl rfl ?_
        refine z_bipush (pc' := 173) X dX8_isPart_171 rfl (by decide) ?_
        refine z_V_int1 (pc' := 176) X rfl Y_X8_takes q2622 dX8_isPart_173 rfl (by decide) (Nat.le_refl _) (Nat.le_refl _) (Nat.le_of_ble_eq_true rfl) (c_X8_takes _ _ _ _ 42 (p + 1 + 1) tx (hf164.tx ht) ⟨hs164, by omega, by omega⟩ hk (by decide)) (fun r173 M173 hr173 hp173 hR173 => ?_)
        obtain ⟨a173, g173⟩ := hp173
        obtain ⟨hs173, b173⟩ := pfk.sp 6 a173
        have hf173 : pfk M M173 0 := hf164.tr b173 (by decide)
        have e6_173 := hf164.1 6 (by decide)
        refine z_if_eq (tgt := 195) (pc' := 179) X (by first | assumption | omega) dX8_isPart_176 rfl (by decide) (fun c176 => ?_) (fun c176 => ?_)
        · refine z_iconst (pc' := 196) X dX8_isPart_195 rfl ?_
          refine z_zreturn X dX8_isPart_196 (by first | exact nar_0 | exact nar_1 | exact nar_b (by omega)) (Nat.le_refl _) (Nat.le_refl _) (fun _ hh => ⟨_, hh, _, rfl, ?_, ?_⟩)
          · first | assumption | omega
          · have eP : prt tx p = (0, p + 1 + 1, w0) := by
              unfold prt
              rw [if_neg (fun q => absurd (s40_98.symm.trans q) (by decide))]
              rw [if_pos s40_98]
              unfold pbs
              rw [if_neg (fun q => q ⟨by omega, by omega⟩)]
              rw [if_pos (fun q => by omega)]
            rw [eP]
            exact ⟨rfl, (by show _ = p + 1 + 1; first | exact hs173 | omega), hf173, fun q => absurd (show (0 : Int) = 1 from q) (by decide)⟩
        · have z173 : r173 = 1 := by omega
          rw [z173] at hs173
          have l173 := tS_lt (tx := tx) (p := p + 1 + 1) (by omega)
          rw [show p + 1 + 1 + 1 = p + 1 + 2 by omega] at hs173
          have nb1 := pNum_b (tx := tx) (lo := 1) (hi := 200) (p := p + 1 + 2) (by decide) ⟨by omega, by omega⟩
          refine z_aload_n (pc' := 180) X dX8_isPart_179 rfl rfl ?_
          refine z_iconst (pc' := 181) X dX8_isPart_180 rfl ?_
          refine z_iconst (pc' := 182) X dX8_isPart_181 rfl ?_
          refine z_sipush (pc' := 185) X dX8_isPart_182 rfl (by decide) ?_
          refine z_V_int3 (pc' := 188) X rfl Y_X8_isNumber q2653 dX8_isPart_185 rfl (by decide) (Nat.le_refl _) (Nat.le_refl _) (Nat.le_of_ble_eq_true rfl) (c_X8_isNumber _ _ _ _ 2 1 200 (p + 1 + 2) tx (hf173.tx ht) ⟨hs173, by omega, by omega⟩ hk (by decide) (by decide) (hf173.m hm) (by decide)) (fun r185 M185 hr185 hp185 hR185 => ?_)
          obtain ⟨a185, hs185, b185, t185⟩ := num_end hs173 hp185
          have hf185 : pfk M M185 0 := hf173.tr b185 (by decide)
          have e6_185 := hf173.1 6 (by decide)
          rw [e6_185] at t185
          refine z_if_eq (tgt := 195) (pc' := 191) X (by first | assumption | omega) dX8_isPart_188 rfl (by decide) (fun c188 => ?_) (fun c188 => ?_)
          · refine z_iconst (pc' := 196) X dX8_isPart_195 rfl ?_
            refine z_zreturn X dX8_isPart_196 (by first | exact nar_0 | exact nar_1 | exact nar_b (by omega)) (Nat.le_refl _) (Nat.le_refl _) (fun _ hh => ⟨_, hh, _, rfl, ?_, ?_⟩)
            · first | assumption | omega
            · have eP : prt tx p = (0, (pNum tx 1 200 (p + 1 + 2)).2.1, w0) := by
                unfold prt
                rw [if_neg (fun q => absurd (s40_98.symm.trans q) (by decide))]
                rw [if_pos s40_98]
                unfold pbs
                rw [if_neg (fun q => q ⟨by omega, by omega⟩)]
                rw [if_neg (fun q => q (by omega))]
                rw [if_pos (by omega)]
              rw [eP]
              exact ⟨rfl, (by show _ = (pNum tx 1 200 (p + 1 + 2)).2.1; first | exact hs185 | omega), hf185, fun q => absurd (show (0 : Int) = 1 from q) (by decide)⟩
          · refine z_iconst (pc' := 192) X dX8_isPart_191 rfl ?_
            refine z_goto (tgt := 196) X dX8_isPart_192 (by decide) ?_
            refine z_zreturn X dX8_isPart_196 (by first | exact nar_0 | exact nar_1 | exact nar_b (by omega)) (Nat.le_refl _) (Nat.le_refl _) (fun _ hh => ⟨_, hh, _, rfl, ?_, ?_⟩)
            · first | assumption | omega
            · have eP : prt tx p = (1, (pNum tx 1 200 (p + 1 + 2)).2.1, (98, tS tx (p + 1) - 48, (pNum tx 1 200 (p + 1 + 2)).2.2, 0, 0, 0)) := by
                unfold prt
                rw [if_neg (fun q => absurd (s40_98.symm.trans q) (by decide))]
                rw [if_pos s40_98]
                unfold pbs
                rw [if_neg (fun q => q ⟨by omega, by omega⟩)]
                rw [if_neg (fun q => q (by omega))]
                rw [if_neg (by omega)]
              rw [eP]
              exact ⟨rfl, hs185, hf185, fun _ => ⟨(by rw [b185.2.2 _ (by omega), b173.2.2 _ (by omega), b164.2.2 _ (by omega)]; exact htA.trans s40_98), (by rw [b185.2.2 _ (by omega), b173.2.2 _ (by omega)]; exact t164), (fun _ => by exact t185 (by omega)), (fun q => absurd (show (98 : Int) = 61 ∨ (98 : Int) = 100 ∨ (98 : Int) = 109 from q) (by decide)), (fun q => absurd (show (98 : Int) = 61 ∨ (98 : Int) = 100 from q) (by decide)), (fun q => absurd (show (98 : Int) = 61 from q) (by decide))⟩⟩
    by_cases s40_100 : tS tx p = 100
    · refine z_lookup (off := 65) (tgt := 105) X (by first | assumption | omega) dX8_isPart_40 (by decide) (by rw [s40_100]; decide) (by decide) ?_
      refine z_aload_n (pc' := 106) X dX8_isPart_105 rfl rfl ?_
      refine z_iconst (pc' := 107) X dX8_isPart_106 rfl ?_
      refine z_iconst (pc' := 108) X dX8_isPart_107 rfl ?_
      refine z_V_int2 (pc' := 111) X rfl Y_X8_isFigure q2645 dX8_isPart_108 rfl (by decide) (Nat.le_refl _) (Nat.le_refl _) (Nat.le_of_ble_eq_true rfl) (c_X8_isFigure _ _ _ _ 1 3 (p + 1) tx (hfA.tx ht) ⟨hsA, by omega, by omega⟩ hk (by decide) (hfA.m hm) (by decide)) (fun r108 M108 hr108 hp108 hR108 => ?_)
      obtain ⟨a108, g108⟩ := hp108
      obtain ⟨hs108, b108, t108⟩ := pfk.of a108
      have hf108 : pfk M M108 0 := hfA.tr b108 (by decide)
      have e6_108 := hfA.1 6 (by decide)
      rw [e6_108] at t108
      refine z_if_eq (tgt := 159) (pc' := 114) X (by first | assumption | omega) dX8_isPart_111 rfl (by decide) (fun c111 => ?_) (fun c111 => ?_)
      · refine z_iconst (pc' := 160) X dX8_isPart_159 rfl ?_
        refine z_zreturn X dX8_isPart_160 (by first | exact nar_0 | exact nar_1 | exact nar_b (by omega)) (Nat.le_refl _) (Nat.le_refl _) (fun _ hh => ⟨_, hh, _, rfl, ?_, ?_⟩)
        · first | assumption | omega
        · have eP : prt tx p = (0, p + 1, w0) := by
            unfold prt
            rw [if_neg (fun q => absurd (s40_100.symm.trans q) (by decide))]
            rw [if_neg (fun q => absurd (s40_100.symm.trans q) (by decide))]
            rw [if_pos s40_100]
            unfold pdel
            rw [if_pos (fun q => by have q1 := q.1; have q2 := q.2; omega)]
          rw [eP]
          exact ⟨rfl, (by show _ = p + 1; first | exact hs108 | omega), hf108, fun q => absurd (show (0 : Int) = 1 from q) (by decide)⟩
      · have z108 : r108 = 1 := by omega
        rw [z108] at hs108
        have l108 := tS_lt (tx := tx) (p := p + 1) (by omega)
        refine z_aload_n (pc' := 115) X dX8_isPart_114 rfl rfl ?_
        refine z_iconst (pc' := 116) X dX8_isPart_115 rfl ?_
        refine z_V_int1 (pc' := 119) X rfl Y_X8_isSorted q2649 dX8_isPart_116 rfl (by decide) (Nat.le_refl _) (Nat.le_refl _) (Nat.le_of_ble_eq_true rfl) (c_X8_isSorted _ _ _ _ 2 (p + 1 + 1) tx (hf108.tx ht) ⟨hs108, by omega, by omega⟩ hk (hf108.m hm) (by decide)) (fun r116 M116 hr116 hp116 hR116 => ?_)
        obtain ⟨a116, g116⟩ := hp116
        obtain ⟨hs116, b116, t116⟩ := pfk.of a116
        have hf116 : pfk M M116 0 := hf108.tr b116 (by decide)
        have e6_116 := hf108.1 6 (by decide)
        rw [e6_116] at t116
        refine z_if_eq (tgt := 159) (pc' := 122) X (by first | assumption | omega) dX8_isPart_119 rfl (by decide) (fun c119 => ?_) (fun c119 => ?_)
        · refine z_iconst (pc' := 160) X dX8_isPart_159 rfl ?_
          refine z_zreturn X dX8_isPart_160 (by first | exact nar_0 | exact nar_1 | exact nar_b (by omega)) (Nat.le_refl _) (Nat.le_refl _) (fun _ hh => ⟨_, hh, _, rfl, ?_, ?_⟩)
          · first | assumption | omega
          · have eP : prt tx p = (0, p + 1 + 1, w0) := by
              unfold prt
              rw [if_neg (fun q => absurd (s40_100.symm.trans q) (by decide))]
              rw [if_neg (fun q => absurd (s40_100.symm.trans q) (by decide))]
              rw [if_pos s40_100]
              unfold pdel
              rw [if_neg (fun q => q ⟨by omega, by omega⟩)]
              rw [if_pos (by omega)]
            rw [eP]
            exact ⟨rfl, (by show _ = p + 1 + 1; first | exact hs116 | omega), hf116, fun q => absurd (show (0 : Int) = 1 from q) (by decide)⟩
        · have z116 : r116 = 1 := by omega
          rw [z116] at hs116
          have l116 := tS_lt (tx := tx) (p := p + 1 + 1) (fun q => by rw [q, srt_n] at g116; omega)
          rw [show p + 1 + 1 + 1 = p + 1 + 2 by omega] at hs116
          have nb1 := pNum_b (tx := tx) (lo := 10) (hi := 300) (p := p + 1 + 2) (by decide) ⟨by omega, by omega⟩
          refine z_aload_n (pc' := 123) X dX8_isPart_122 rfl rfl ?_
          refine z_iconst (pc' := 124) X dX8_isPart_123 rfl ?_
          refine z_bipush (pc' := 126) X dX8_isPart_124 rfl (by decide) ?_
          refine z_sipush (pc' := 129) X dX8_isPart_126 rfl (by decide) ?_
          refine z_V_int3 (pc' := 132) X rfl Y_X8_isNumber q2653 dX8_isPart_129 rfl (by decide) (Nat.le_refl _) (Nat.le_refl _) (Nat.le_of_ble_eq_true rfl) (c_X8_isNumber _ _ _ _ 3 10 300 (p + 1 + 2) tx (hf116.tx ht) ⟨hs116, by omega, by omega⟩ hk (by decide) (by decide) (hf116.m hm) (by decide)) (fun r129 M129 hr129 hp129 hR129 => ?_)
          obtain ⟨a129, hs129, b129, t129⟩ := num_end hs116 hp129
          have hf129 : pfk M M129 0 := hf116.tr b129 (by decide)
          have e6_129 := hf116.1 6 (by decide)
          rw [e6_129] at t129
          refine z_if_eq (tgt := 159) (pc' := 135) X (by first | assumption | omega) dX8_isPart_132 rfl (by decide) (fun c132 => ?_) (fun c132 => ?_)
          · refine z_iconst (pc' := 160) X dX8_isPart_159 rfl ?_
            refine z_zreturn X dX8_isPart_160 (by first | exact nar_0 | exact nar_1 | exact nar_b (by omega)) (Nat.le_refl _) (Nat.le_refl _) (fun _ hh => ⟨_, hh, _, rfl, ?_, ?_⟩)
            · first | assumption | omega
            · have eP : prt tx p = (0, (pNum tx 10 300 (p + 1 + 2)).2.1, w0) := by
                unfold prt
                rw [if_neg (fun q => absurd (s40_100.symm.trans q) (by decide))]
                rw [if_neg (fun q => absurd (s40_100.symm.trans q) (by decide))]
                rw [if_pos s40_100]
                unfold pdel
                rw [if_neg (fun q => q ⟨by omega, by omega⟩)]
                rw [if_neg (by omega)]
                rw [if_pos (by omega)]
              rw [eP]
              exact ⟨rfl, (by show _ = (pNum tx 10 300 (p + 1 + 2)).2.1; first | exact hs129 | omega), hf129, fun q => absurd (show (0 : Int) = 1 from q) (by decide)⟩
          · have z129 : (pNum tx 10 300 (p + 1 + 2)).1 = 1 := by omega
            refine z_aload_n (pc' := 136) X dX8_isPart_135 rfl rfl ?_
            refine z_bipush (pc' := 138) X dX8_isPart_136 rfl (by decide) ?_
            refine z_V_int1 (pc' := 141) X rfl Y_X8_takes q2622 dX8_isPart_138 rfl (by decide) (Nat.le_refl _) (Nat.le_refl _) (Nat.le_of_ble_eq_true rfl) (c_X8_takes _ _ _ _ 47 ((pNum tx 10 300 (p + 1 + 2)).2.1) tx (hf129.tx ht) ⟨hs129, by omega, by omega⟩ hk (by decide)) (fun r138 M138 hr138 hp138 hR138 => ?_)
            obtain ⟨a138, g138⟩ := hp138
            obtain ⟨hs138, b138⟩ := pfk.sp 6 a138
            have hf138 : pfk M M138 0 := hf129.tr b138 (by decide)
            have e6_138 := hf129.1 6 (by decide)
            refine z_if_eq (tgt := 159) (pc' := 144) X (by first | assumption | omega) dX8_isPart_141 rfl (by decide) (fun c141 => ?_) (fun c141 => ?_)
            · refine z_iconst (pc' := 160) X dX8_isPart_159 rfl ?_
              refine z_zreturn X dX8_isPart_160 (by first | exact nar_0 | exact nar_1 | exact nar_b (by omega)) (Nat.le_refl _) (Nat.le_refl _) (fun _ hh => ⟨_, hh, _, rfl, ?_, ?_⟩)
              · first | assumption | omega
              · have eP : prt tx p = (0, (pNum tx 10 300 (p + 1 + 2)).2.1, w0) := by
                  unfold prt
                  rw [if_neg (fun q => absurd (s40_100.symm.trans q) (by decide))]
                  rw [if_neg (fun q => absurd (s40_100.symm.trans q) (by decide))]
                  rw [if_pos s40_100]
                  unfold pdel
                  rw [if_neg (fun q => q ⟨by omega, by omega⟩)]
                  rw [if_neg (by omega)]
                  rw [if_neg (by omega)]
                  rw [if_pos (fun q => by omega)]
                rw [eP]
                exact ⟨rfl, (by show _ = (pNum tx 10 300 (p + 1 + 2)).2.1; first | exact hs138 | omega), hf138, fun q => absurd (show (0 : Int) = 1 from q) (by decide)⟩
            · have z138 : r138 = 1 := by omega
              rw [z138] at hs138
              have l138 := tS_lt (tx := tx) (p := (pNum tx 10 300 (p + 1 + 2)).2.1) (by omega)
              have nb2 := pNum_b (tx := tx) (lo := 0) (hi := 99) (p := (pNum tx 10 300 (p + 1 + 2)).2.1 + 1) (by decide) ⟨by omega, by omega⟩
              refine z_aload_n (pc' := 145) X dX8_isPart_144 rfl rfl ?_
              refine z_iconst (pc' := 146) X dX8_isPart_145 rfl ?_
              refine z_iconst (pc' := 147) X dX8_isPart_146 rfl ?_
              refine z_bipush (pc' := 149) X dX8_isPart_147 rfl (by decide) ?_
              refine z_V_int3 (pc' := 152) X rfl Y_X8_isNumber q2653 dX8_isPart_149 rfl (by decide) (Nat.le_refl _) (Nat.le_refl _) (Nat.le_of_ble_eq_true rfl) (c_X8_isNumber _ _ _ _ 4 0 99 ((pNum tx 10 300 (p + 1 + 2)).2.1 + 1) tx (hf138.tx ht) ⟨hs138, by omega, by omega⟩ hk (by decide) (by decide) (hf138.m hm) (by decide)) (fun r149 M149 hr149 hp149 hR149 => ?_)
              obtain ⟨a149, hs149, b149, t149⟩ := num_end hs138 hp149
              have hf149 : pfk M M149 0 := hf138.tr b149 (by decide)
              have e6_149 := hf138.1 6 (by decide)
              rw [e6_149] at t149
              refine z_if_eq (tgt := 159) (pc' := 155) X (by first | assumption | omega) dX8_isPart_152 rfl (by decide) (fun c152 => ?_) (fun c152 => ?_)
              · refine z_iconst (pc' := 160) X dX8_isPart_159 rfl ?_
                refine z_zreturn X dX8_isPart_160 (by first | exact nar_0 | exact nar_1 | exact nar_b (by omega)) (Nat.le_refl _) (Nat.le_refl _) (fun _ hh => ⟨_, hh, _, rfl, ?_, ?_⟩)
                · first | assumption | omega
                · have eP : prt tx p = (0, (pNum tx 0 99 ((pNum tx 10 300 (p + 1 + 2)).2.1 + 1)).2.1, w0) := by
                    unfold prt
                    rw [if_neg (fun q => absurd (s40_100.symm.trans q) (by decide))]
                    rw [if_neg (fun q => absurd (s40_100.symm.trans q) (by decide))]
                    rw [if_pos s40_100]
                    unfold pdel
                    rw [if_neg (fun q => q ⟨by omega, by omega⟩)]
                    rw [if_neg (by omega)]
                    rw [if_neg (by omega)]
                    rw [if_neg (fun q => q (by omega))]
                    rw [if_pos (by omega)]
                  rw [eP]
                  exact ⟨rfl, (by show _ = (pNum tx 0 99 ((pNum tx 10 300 (p + 1 + 2)).2.1 + 1)).2.1; first | exact hs149 | omega), hf149, fun q => absurd (show (0 : Int) = 1 from q) (by decide)⟩
              · refine z_iconst (pc' := 156) X dX8_isPart_155 rfl ?_
                refine z_goto (tgt := 160) X dX8_isPart_156 (by decide) ?_
                refine z_zreturn X dX8_isPart_160 (by first | exact nar_0 | exact nar_1 | exact nar_b (by omega)) (Nat.le_refl _) (Nat.le_refl _) (fun _ hh => ⟨_, hh, _, rfl, ?_, ?_⟩)
                · first | assumption | omega
                · have eP : prt tx p = (1, (pNum tx 0 99 ((pNum tx 10 300 (p + 1 + 2)).2.1 + 1)).2.1, (100, tS tx (p + 1) - 48, srt (tS tx (p + 1 + 1)), (pNum tx 10 300 (p + 1 + 2)).2.2, (pNum tx 0 99 ((pNum tx 10 300 (p + 1 + 2)).2.1 + 1)).2.2, 0)) := by
                    unfold prt
                    rw [if_neg (fun q => absurd (s40_100.symm.trans q) (by decide))]
                    rw [if_neg (fun q => absurd (s40_100.symm.trans q) (by decide))]
                    rw [if_pos s40_100]
                    unfold pdel
                    rw [if_neg (fun q => q ⟨by omega, by omega⟩)]
                    rw [if_neg (by omega)]
                    rw [if_neg (by omega)]
                    rw [if_neg (fun q => q (by omega))]
                    rw [if_neg (by omega)]
                  rw [eP]
                  exact ⟨rfl, hs149, hf149, fun _ => ⟨(by rw [b149.2.2 _ (by omega), b138.2.2 _ (by omega), b129.2.2 _ (by omega), b116.2.2 _ (by omega), b108.2.2 _ (by omega)]; exact htA.trans s40_100), (by rw [b149.2.2 _ (by omega), b138.2.2 _ (by omega), b129.2.2 _ (by omega), b116.2.2 _ (by omega)]; exact t108), (fun _ => by rw [b149.2.2 _ (by omega), b138.2.2 _ (by omega), b129.2.2 _ (by omega)]; exact t116), (fun _ => by rw [b149.2.2 _ (by omega), b138.2.2 _ (by omega)]; exact t129 (by omega)), (fun _ => by exact t149 (by omega)), (fun q => absurd (show (100 : Int) = 61 from q) (by decide))⟩⟩
    by_cases s40_109 : tS tx p = 109
    · refine z_lookup (off := 192) (tgt := 232) X (by first | assumption | omega) dX8_isPart_40 (by decide) (by rw [s40_109]; decide) (by decide) ?_
      refine z_aload_n (pc' := 233) X dX8_isPart_232 rfl rfl ?_
      refine z_iconst (pc' := 234) X dX8_isPart_233 rfl ?_
      refine z_iconst (pc' := 235) X dX8_isPart_234 rfl ?_
      refine z_V_int2 (pc' := 238) X rfl Y_X8_isFigure q2645 dX8_isPart_235 rfl (by decide) (Nat.le_refl _) (Nat.le_refl _) (Nat.le_of_ble_eq_true rfl) (c_X8_isFigure _ _ _ _ 1 2 (p + 1) tx (hfA.tx ht) ⟨hsA, by omega, by omega⟩ hk (by decide) (hfA.m hm) (by decide)) (fun r235 M235 hr235 hp235 hR235 => ?_)
      obtain ⟨a235, g235⟩ := hp235
      obtain ⟨hs235, b235, t235⟩ := pfk.of a235
      have hf235 : pfk M M235 0 := hfA.tr b235 (by decide)
      have e6_235 := hfA.1 6 (by decide)
      rw [e6_235] at t235
      refine z_if_eq (tgt := 275) (pc' := 241) X (by first | assumption | omega) dX8_isPart_238 rfl (by decide) (fun c238 => ?_) (fun c238 => ?_)
      · refine z_iconst (pc' := 276) X dX8_isPart_275 rfl ?_
        refine z_zreturn X dX8_isPart_276 (by first | exact nar_0 | exact nar_1 | exact nar_b (by omega)) (Nat.le_refl _) (Nat.le_refl _) (fun _ hh => ⟨_, hh, _, rfl, ?_, ?_⟩)
        · first | assumption | omega
        · have eP : prt tx p = (0, p + 1, w0) := by
            unfold prt
            rw [if_neg (fun q => absurd (s40_109.symm.trans q) (by decide))]
            rw [if_neg (fun q => absurd (s40_109.symm.trans q) (by decide))]
            rw [if_neg (fun q => absurd (s40_109.symm.trans q) (by decide))]
            rw [if_pos s40_109]
            unfold pmk
            rw [if_pos (fun q => by have q1 := q.1; have q2 := q.2; omega)]
          rw [eP]
          exact ⟨rfl, (by show _ = p + 1; first | exact hs235 | omega), hf235, fun q => absurd (show (0 : Int) = 1 from q) (by decide)⟩
      · have z235 : r235 = 1 := by omega
        rw [z235] at hs235
        have l235 := tS_lt (tx := tx) (p := p + 1) (by omega)
        refine z_aload_n (pc' := 242) X dX8_isPart_241 rfl rfl ?_
        refine z_iconst (pc' := 243) X dX8_isPart_242 rfl ?_
        refine z_iconst (pc' := 244) X dX8_isPart_243 rfl ?_
        refine z_V_int2 (pc' := 247) X rfl Y_X8_isFigure q2645 dX8_isPart_244 rfl (by decide) (Nat.le_refl _) (Nat.le_refl _) (Nat.le_of_ble_eq_true rfl) (c_X8_isFigure _ _ _ _ 2 4 (p + 1 + 1) tx (hf235.tx ht) ⟨hs235, by omega, by omega⟩ hk (by decide) (hf235.m hm) (by decide)) (fun r244 M244 hr244 hp244 hR244 => ?_)
        obtain ⟨a244, g244⟩ := hp244
        obtain ⟨hs244, b244, t244⟩ := pfk.of a244
        have hf244 : pfk M M244 0 := hf235.tr b244 (by decide)
        have e6_244 := hf235.1 6 (by decide)
        rw [e6_244] at t244
        refine z_if_eq (tgt := 275) (pc' := 250) X (by first | assumption | omega) dX8_isPart_247 rfl (by decide) (fun c247 => ?_) (fun c247 => ?_)
        · refine z_iconst (pc' := 276) X dX8_isPart_275 rfl ?_
          refine z_zreturn X dX8_isPart_276 (by first | exact nar_0 | exact nar_1 | exact nar_b (by omega)) (Nat.le_refl _) (Nat.le_refl _) (fun _ hh => ⟨_, hh, _, rfl, ?_, ?_⟩)
          · first | assumption | omega
          · have eP : prt tx p = (0, p + 1 + 1, w0) := by
              unfold prt
              rw [if_neg (fun q => absurd (s40_109.symm.trans q) (by decide))]
              rw [if_neg (fun q => absurd (s40_109.symm.trans q) (by decide))]
              rw [if_neg (fun q => absurd (s40_109.symm.trans q) (by decide))]
              rw [if_pos s40_109]
              unfold pmk
              rw [if_neg (fun q => q ⟨by omega, by omega⟩)]
              rw [if_pos (fun q => by have q1 := q.1; have q2 := q.2; omega)]
            rw [eP]
            exact ⟨rfl, (by show _ = p + 1 + 1; first | exact hs244 | omega), hf244, fun q => absurd (show (0 : Int) = 1 from q) (by decide)⟩
        · have z244 : r244 = 1 := by omega
          rw [z244] at hs244
          have l244 := tS_lt (tx := tx) (p := p + 1 + 1) (by omega)
          rw [show p + 1 + 1 + 1 = p + 1 + 2 by omega] at hs244
          refine z_aload_n (pc' := 251) X dX8_isPart_250 rfl rfl ?_
          refine z_bipush (pc' := 253) X dX8_isPart_251 rfl (by decide) ?_
          refine z_V_int1 (pc' := 256) X rfl Y_X8_takes q2622 dX8_isPart_253 rfl (by decide) (Nat.le_refl _) (Nat.le_refl _) (Nat.le_of_ble_eq_true rfl) (c_X8_takes _ _ _ _ 42 (p + 1 + 2) tx (hf244.tx ht) ⟨hs244, by omega, by omega⟩ hk (by decide)) (fun r253 M253 hr253 hp253 hR253 => ?_)
          obtain ⟨a253, g253⟩ := hp253
          obtain ⟨hs253, b253⟩ := pfk.sp 6 a253
          have hf253 : pfk M M253 0 := hf244.tr b253 (by decide)
          have e6_253 := hf244.1 6 (by decide)
          refine z_if_eq (tgt := 275) (pc' := 259) X (by first | assumption | omega) dX8_isPart_256 rfl (by decide) (fun c256 => ?_) (fun c256 => ?_)
          · refine z_iconst (pc' := 276) X dX8_isPart_275 rfl ?_
            refine z_zreturn X dX8_isPart_276 (by first | exact nar_0 | exact nar_1 | exact nar_b (by omega)) (Nat.le_refl _) (Nat.le_refl _) (fun _ hh => ⟨_, hh, _, rfl, ?_, ?_⟩)
            · first | assumption | omega
            · have eP : prt tx p = (0, p + 1 + 2, w0) := by
                unfold prt
                rw [if_neg (fun q => absurd (s40_109.symm.trans q) (by decide))]
                rw [if_neg (fun q => absurd (s40_109.symm.trans q) (by decide))]
                rw [if_neg (fun q => absurd (s40_109.symm.trans q) (by decide))]
                rw [if_pos s40_109]
                unfold pmk
                rw [if_neg (fun q => q ⟨by omega, by omega⟩)]
                rw [if_neg (fun q => q ⟨by omega, by omega⟩)]
                rw [if_pos (fun q => by omega)]
              rw [eP]
              exact ⟨rfl, (by show _ = p + 1 + 2; first | exact hs253 | omega), hf253, fun q => absurd (show (0 : Int) = 1 from q) (by decide)⟩
          · have z253 : r253 = 1 := by omega
            rw [z253] at hs253
            have l253 := tS_lt (tx := tx) (p := p + 1 + 2) (by omega)
            rw [show p + 1 + 2 + 1 = p + 1 + 3 by omega] at hs253
            have nb1 := pNum_b (tx := tx) (lo := 1) (hi := 480) (p := p + 1 + 3) (by decide) ⟨by omega, by omega⟩
            refine z_aload_n (pc' := 260) X dX8_isPart_259 rfl rfl ?_
            refine z_iconst (pc' := 261) X dX8_isPart_260 rfl ?_
            refine z_iconst (pc' := 262) X dX8_isPart_261 rfl ?_
            refine z_sipush (pc' := 265) X dX8_isPart_262 rfl (by decide) ?_
            refine z_V_int3 (pc' := 268) X rfl Y_X8_isNumber q2653 dX8_isPart_265 rfl (by decide) (Nat.le_refl _) (Nat.le_refl _) (Nat.le_of_ble_eq_true rfl) (c_X8_isNumber _ _ _ _ 3 1 480 (p + 1 + 3) tx (hf253.tx ht) ⟨hs253, by omega, by omega⟩ hk (by decide) (by decide) (hf253.m hm) (by decide)) (fun r265 M265 hr265 hp265 hR265 => ?_)
            obtain ⟨a265, hs265, b265, t265⟩ := num_end hs253 hp265
            have hf265 : pfk M M265 0 := hf253.tr b265 (by decide)
            have e6_265 := hf253.1 6 (by decide)
            rw [e6_265] at t265
            refine z_if_eq (tgt := 275) (pc' := 271) X (by first | assumption | omega) dX8_isPart_268 rfl (by decide) (fun c268 => ?_) (fun c268 => ?_)
            · refine z_iconst (pc' := 276) X dX8_isPart_275 rfl ?_
              refine z_zreturn X dX8_isPart_276 (by first | exact nar_0 | exact nar_1 | exact nar_b (by omega)) (Nat.le_refl _) (Nat.le_refl _) (fun _ hh => ⟨_, hh, _, rfl, ?_, ?_⟩)
              · first | assumption | omega
              · have eP : prt tx p = (0, (pNum tx 1 480 (p + 1 + 3)).2.1, w0) := by
                  unfold prt
                  rw [if_neg (fun q => absurd (s40_109.symm.trans q) (by decide))]
                  rw [if_neg (fun q => absurd (s40_109.symm.trans q) (by decide))]
                  rw [if_neg (fun q => absurd (s40_109.symm.trans q) (by decide))]
                  rw [if_pos s40_109]
                  unfold pmk
                  rw [if_neg (fun q => q ⟨by omega, by omega⟩)]
                  rw [if_neg (fun q => q ⟨by omega, by omega⟩)]
                  rw [if_neg (fun q => q (by omega))]
                  rw [if_pos (by omega)]
                rw [eP]
                exact ⟨rfl, (by show _ = (pNum tx 1 480 (p + 1 + 3)).2.1; first | exact hs265 | omega), hf265, fun q => absurd (show (0 : Int) = 1 from q) (by decide)⟩
            · refine z_iconst (pc' := 272) X dX8_isPart_271 rfl ?_
              refine z_goto (tgt := 276) X dX8_isPart_272 (by decide) ?_
              refine z_zreturn X dX8_isPart_276 (by first | exact nar_0 | exact nar_1 | exact nar_b (by omega)) (Nat.le_refl _) (Nat.le_refl _) (fun _ hh => ⟨_, hh, _, rfl, ?_, ?_⟩)
              · first | assumption | omega
              · have eP : prt tx p = (1, (pNum tx 1 480 (p + 1 + 3)).2.1, (109, tS tx (p + 1) - 48, tS tx (p + 1 + 1) - 48, (pNum tx 1 480 (p + 1 + 3)).2.2, 0, 0)) := by
                  unfold prt
                  rw [if_neg (fun q => absurd (s40_109.symm.trans q) (by decide))]
                  rw [if_neg (fun q => absurd (s40_109.symm.trans q) (by decide))]
                  rw [if_neg (fun q => absurd (s40_109.symm.trans q) (by decide))]
                  rw [if_pos s40_109]
                  unfold pmk
                  rw [if_neg (fun q => q ⟨by omega, by omega⟩)]
                  rw [if_neg (fun q => q ⟨by omega, by omega⟩)]
                  rw [if_neg (fun q => q (by omega))]
                  rw [if_neg (by omega)]
                rw [eP]
                exact ⟨rfl, hs265, hf265, fun _ => ⟨(by rw [b265.2.2 _ (by omega), b253.2.2 _ (by omega), b244.2.2 _ (by omega), b235.2.2 _ (by omega)]; exact htA.trans s40_109), (by rw [b265.2.2 _ (by omega), b253.2.2 _ (by omega), b244.2.2 _ (by omega)]; exact t235), (fun _ => by rw [b265.2.2 _ (by omega), b253.2.2 _ (by omega)]; exact t244), (fun _ => by exact t265 (by omega)), (fun q => absurd (show (109 : Int) = 61 ∨ (109 : Int) = 100 from q) (by decide)), (fun q => absurd (show (109 : Int) = 61 from q) (by decide))⟩⟩
    by_cases s40_110 : tS tx p = 110
    · refine z_lookup (off := 237) (tgt := 277) X (by first | assumption | omega) dX8_isPart_40 (by decide) (by rw [s40_110]; decide) (by decide) ?_
      have nb1 := pNum_b (tx := tx) (lo := 1) (hi := 20) (p := p + 1) (by decide) ⟨by omega, by omega⟩
      refine z_aload_n (pc' := 278) X dX8_isPart_277 rfl rfl ?_
      refine z_iconst (pc' := 279) X dX8_isPart_278 rfl ?_
      refine z_iconst (pc' := 280) X dX8_isPart_279 rfl ?_
      refine z_bipush (pc' := 282) X dX8_isPart_280 rfl (by decide) ?_
      refine z_V_int3 (pc' := 285) X rfl Y_X8_isNumber q2653 dX8_isPart_282 rfl (by decide) (Nat.le_refl _) (Nat.le_refl _) (Nat.le_of_ble_eq_true rfl) (c_X8_isNumber _ _ _ _ 1 1 20 (p + 1) tx (hfA.tx ht) ⟨hsA, by omega, by omega⟩ hk (by decide) (by decide) (hfA.m hm) (by decide)) (fun r282 M282 hr282 hp282 hR282 => ?_)
      obtain ⟨a282, hs282, b282, t282⟩ := num_end hsA hp282
      have hf282 : pfk M M282 0 := hfA.tr b282 (by decide)
      have e6_282 := hfA.1 6 (by decide)
      rw [e6_282] at t282
      refine z_zreturn X dX8_isPart_285 (by first | exact nar_0 | exact nar_1 | exact nar_b (by omega)) (Nat.le_refl _) (Nat.le_refl _) (fun _ hh => ⟨_, hh, _, rfl, ?_, ?_⟩)
      · first | assumption | omega
      · have eP : prt tx p = pnx tx (p + 1) := by
          unfold prt
          rw [if_neg (fun q => absurd (s40_110.symm.trans q) (by decide))]
          rw [if_neg (fun q => absurd (s40_110.symm.trans q) (by decide))]
          rw [if_neg (fun q => absurd (s40_110.symm.trans q) (by decide))]
          rw [if_neg (fun q => absurd (s40_110.symm.trans q) (by decide))]
          rw [if_pos s40_110]
        rw [eP]
        unfold pnx
        rcases nb1.1 with z | z
        · rw [if_pos z]
          exact ⟨a282.trans z, hs282, hf282, fun q => absurd (show (0 : Int) = 1 from q) (by decide)⟩
        · rw [if_neg (by omega)]
          exact ⟨a282.trans z, hs282, hf282, fun _ => ⟨(by rw [b282.2.2 _ (by omega)]; exact htA.trans s40_110), (by exact t282 (by omega)), (fun q => absurd (show (110 : Int) ≠ 110 from q) (by decide)), (fun q => absurd (show (110 : Int) = 61 ∨ (110 : Int) = 100 ∨ (110 : Int) = 109 from q) (by decide)), (fun q => absurd (show (110 : Int) = 61 ∨ (110 : Int) = 100 from q) (by decide)), (fun q => absurd (show (110 : Int) = 61 from q) (by decide))⟩⟩
    by_cases s40_115 : tS tx p = 115
    · refine z_lookup (off := 157) (tgt := 197) X (by first | assumption | omega) dX8_isPart_40 (by decide) (by rw [s40_115]; decide) (by decide) ?_
      refine z_aload_n (pc' := 198) X dX8_isPart_197 rfl rfl ?_
      refine z_iconst (pc' := 199) X dX8_isPart_198 rfl ?_
      refine z_iconst (pc' := 200) X dX8_isPart_199 rfl ?_
      refine z_V_int2 (pc' := 203) X rfl Y_X8_isFigure q2645 dX8_isPart_200 rfl (by decide) (Nat.le_refl _) (Nat.le_refl _) (Nat.le_of_ble_eq_true rfl) (c_X8_isFigure _ _ _ _ 1 2 (p + 1) tx (hfA.tx ht) ⟨hsA, by omega, by omega⟩ hk (by decide) (hfA.m hm) (by decide)) (fun r200 M200 hr200 hp200 hR200 => ?_)
      obtain ⟨a200, g200⟩ := hp200
      obtain ⟨hs200, b200, t200⟩ := pfk.of a200
      have hf200 : pfk M M200 0 := hfA.tr b200 (by decide)
      have e6_200 := hfA.1 6 (by decide)
      rw [e6_200] at t200
      refine z_if_eq (tgt := 230) (pc' := 206) X (by first | assumption | omega) dX8_isPart_203 rfl (by decide) (fun c203 => ?_) (fun c203 => ?_)
      · refine z_iconst (pc' := 231) X dX8_isPart_230 rfl ?_
        refine z_zreturn X dX8_isPart_231 (by first | exact nar_0 | exact nar_1 | exact nar_b (by omega)) (Nat.le_refl _) (Nat.le_refl _) (fun _ hh => ⟨_, hh, _, rfl, ?_, ?_⟩)
        · first | assumption | omega
        · have eP : prt tx p = (0, p + 1, w0) := by
            unfold prt
            rw [if_neg (fun q => absurd (s40_115.symm.trans q) (by decide))]
            rw [if_neg (fun q => absurd (s40_115.symm.trans q) (by decide))]
            rw [if_neg (fun q => absurd (s40_115.symm.trans q) (by decide))]
            rw [if_neg (fun q => absurd (s40_115.symm.trans q) (by decide))]
            rw [if_neg (fun q => absurd (s40_115.symm.trans q) (by decide))]
            rw [if_pos s40_115]
            unfold pbs
            rw [if_pos (fun q => by have q1 := q.1; have q2 := q.2; omega)]
          rw [eP]
          exact ⟨rfl, (by show _ = p + 1; first | exact hs200 | omega), hf200, fun q => absurd (show (0 : Int) = 1 from q) (by decide)⟩
      · have z200 : r200 = 1 := by omega
        rw [z200] at hs200
        have l200 := tS_lt (tx := tx) (p := p + 1) (by omega)
        refine z_aload_n (pc' := 207) X dX8_isPart_206 rfl rfl ?_
        refine z_bipush (pc' := 209) X dX8_isPart_207 rfl (by decide) ?_
        refine z_V_int1 (pc' := 212) X rfl Y_X8_takes q2622 dX8_isPart_209 rfl (by decide) (Nat.le_refl _) (Nat.le_refl _) (Nat.le_of_ble_eq_true rfl) (c_X8_takes _ _ _ _ 58 (p + 1 + 1) tx (hf200.tx ht) ⟨hs200, by omega, by omega⟩ hk (by decide)) (fun r209 M209 hr209 hp209 hR209 => ?_)
        obtain ⟨a209, g209⟩ := hp209
        obtain ⟨hs209, b209⟩ := pfk.sp 6 a209
        have hf209 : pfk M M209 0 := hf200.tr b209 (by decide)
        have e6_209 := hf200.1 6 (by decide)
        refine z_if_eq (tgt := 230) (pc' := 215) X (by first | assumption | omega) dX8_isPart_212 rfl (by decide) (fun c212 => ?_) (fun c212 => ?_)
        · refine z_iconst (pc' := 231) X dX8_isPart_230 rfl ?_
          refine z_zreturn X dX8_isPart_231 (by first | exact nar_0 | exact nar_1 | exact nar_b (by omega)) (Nat.le_refl _) (Nat.le_refl _) (fun _ hh => ⟨_, hh, _, rfl, ?_, ?_⟩)
          · first | assumption | omega
          · have eP : prt tx p = (0, p + 1 + 1, w0) := by
              unfold prt
              rw [if_neg (fun q => absurd (s40_115.symm.trans q) (by decide))]
              rw [if_neg (fun q => absurd (s40_115.symm.trans q) (by decide))]
              rw [if_neg (fun q => absurd (s40_115.symm.trans q) (by decide))]
              rw [if_neg (fun q => absurd (s40_115.symm.trans q) (by decide))]
              rw [if_neg (fun q => absurd (s40_115.symm.trans q) (by decide))]
              rw [if_pos s40_115]
              unfold pbs
              rw [if_neg (fun q => q ⟨by omega, by omega⟩)]
              rw [if_pos (fun q => by omega)]
            rw [eP]
            exact ⟨rfl, (by show _ = p + 1 + 1; first | exact hs209 | omega), hf209, fun q => absurd (show (0 : Int) = 1 from q) (by decide)⟩
        · have z209 : r209 = 1 := by omega
          rw [z209] at hs209
          have l209 := tS_lt (tx := tx) (p := p + 1 + 1) (by omega)
          rw [show p + 1 + 1 + 1 = p + 1 + 2 by omega] at hs209
          have nb1 := pNum_b (tx := tx) (lo := 1) (hi := 24) (p := p + 1 + 2) (by decide) ⟨by omega, by omega⟩
          refine z_aload_n (pc' := 216) X dX8_isPart_215 rfl rfl ?_
          refine z_iconst (pc' := 217) X dX8_isPart_216 rfl ?_
          refine z_iconst (pc' := 218) X dX8_isPart_217 rfl ?_
          refine z_bipush (pc' := 220) X dX8_isPart_218 rfl (by decide) ?_
          refine z_V_int3 (pc' := 223) X rfl Y_X8_isNumber q2653 dX8_isPart_220 rfl (by decide) (Nat.le_refl _) (Nat.le_refl _) (Nat.le_of_ble_eq_true rfl) (c_X8_isNumber _ _ _ _ 2 1 24 (p + 1 + 2) tx (hf209.tx ht) ⟨hs209, by omega, by omega⟩ hk (by decide) (by decide) (hf209.m hm) (by decide)) (fun r220 M220 hr220 hp220 hR220 => ?_)
          obtain ⟨a220, hs220, b220, t220⟩ := num_end hs209 hp220
          have hf220 : pfk M M220 0 := hf209.tr b220 (by decide)
          have e6_220 := hf209.1 6 (by decide)
          rw [e6_220] at t220
          refine z_if_eq (tgt := 230) (pc' := 226) X (by first | assumption | omega) dX8_isPart_223 rfl (by decide) (fun c223 => ?_) (fun c223 => ?_)
          · refine z_iconst (pc' := 231) X dX8_isPart_230 rfl ?_
            refine z_zreturn X dX8_isPart_231 (by first | exact nar_0 | exact nar_1 | exact nar_b (by omega)) (Nat.le_refl _) (Nat.le_refl _) (fun _ hh => ⟨_, hh, _, rfl, ?_, ?_⟩)
            · first | assumption | omega
            · have eP : prt tx p = (0, (pNum tx 1 24 (p + 1 + 2)).2.1, w0) := by
                unfold prt
                rw [if_neg (fun q => absurd (s40_115.symm.trans q) (by decide))]
                rw [if_neg (fun q => absurd (s40_115.symm.trans q) (by decide))]
                rw [if_neg (fun q => absurd (s40_115.symm.trans q) (by decide))]
                rw [if_neg (fun q => absurd (s40_115.symm.trans q) (by decide))]
                rw [if_neg (fun q => absurd (s40_115.symm.trans q) (by decide))]
                rw [if_pos s40_115]
                unfold pbs
                rw [if_neg (fun q => q ⟨by omega, by omega⟩)]
                rw [if_neg (fun q => q (by omega))]
                rw [if_pos (by omega)]
              rw [eP]
              exact ⟨rfl, (by show _ = (pNum tx 1 24 (p + 1 + 2)).2.1; first | exact hs220 | omega), hf220, fun q => absurd (show (0 : Int) = 1 from q) (by decide)⟩
          · refine z_iconst (pc' := 227) X dX8_isPart_226 rfl ?_
            refine z_goto (tgt := 231) X dX8_isPart_227 (by decide) ?_
            refine z_zreturn X dX8_isPart_231 (by first | exact nar_0 | exact nar_1 | exact nar_b (by omega)) (Nat.le_refl _) (Nat.le_refl _) (fun _ hh => ⟨_, hh, _, rfl, ?_, ?_⟩)
            · first | assumption | omega
            · have eP : prt tx p = (1, (pNum tx 1 24 (p + 1 + 2)).2.1, (115, tS tx (p + 1) - 48, (pNum tx 1 24 (p + 1 + 2)).2.2, 0, 0, 0)) := by
                unfold prt
                rw [if_neg (fun q => absurd (s40_115.symm.trans q) (by decide))]
                rw [if_neg (fun q => absurd (s40_115.symm.trans q) (by decide))]
                rw [if_neg (fun q => absurd (s40_115.symm.trans q) (by decide))]
                rw [if_neg (fun q => absurd (s40_115.symm.trans q) (by decide))]
                rw [if_neg (fun q => absurd (s40_115.symm.trans q) (by decide))]
                rw [if_pos s40_115]
                unfold pbs
                rw [if_neg (fun q => q ⟨by omega, by omega⟩)]
                rw [if_neg (fun q => q (by omega))]
                rw [if_neg (by omega)]
              rw [eP]
              exact ⟨rfl, hs220, hf220, fun _ => ⟨(by rw [b220.2.2 _ (by omega), b209.2.2 _ (by omega), b200.2.2 _ (by omega)]; exact htA.trans s40_115), (by rw [b220.2.2 _ (by omega), b209.2.2 _ (by omega)]; exact t200), (fun _ => by exact t220 (by omega)), (fun q => absurd (show (115 : Int) = 61 ∨ (115 : Int) = 100 ∨ (115 : Int) = 109 from q) (by decide)), (fun q => absurd (show (115 : Int) = 61 ∨ (115 : Int) = 100 from q) (by decide)), (fun q => absurd (show (115 : Int) = 61 from q) (by decide))⟩⟩
    refine z_lookup (off := 246) (tgt := 286) X (by first | assumption | omega) dX8_isPart_40 (by decide) (by show Op.lookupswitch.offset [(61, 60), (98, 121), (100, 65), (109, 192), (110, 237), (115, 157)] 246 (tS tx p) = 246; rw [Op.lookupswitch.offset_cons, if_neg (fun q => s40_61 q.symm), Op.lookupswitch.offset_cons, if_neg (fun q => s40_98 q.symm), Op.lookupswitch.offset_cons, if_neg (fun q => s40_100 q.symm), Op.lookupswitch.offset_cons, if_neg (fun q => s40_109 q.symm), Op.lookupswitch.offset_cons, if_neg (fun q => s40_110 q.symm), Op.lookupswitch.offset_cons, if_neg (fun q => s40_115 q.symm), Op.lookupswitch.offset_nil]) (by decide) ?_
    refine z_aload_n (pc' := 287) X dX8_isPart_286 rfl rfl ?_
    refine z_dup (pc' := 288) X rfl dX8_isPart_287 rfl ?_
    have hv288 := hR36 0 5
    refine z_mget (pc' := 291) X 12 rfl (by decide) q2075 rfl dX8_isPart_288 rfl ?_
    refine z_iconst (pc' := 292) X dX8_isPart_291 rfl ?_
    refine z_isub (pc' := 293) X dX8_isPart_292 rfl ?_
    refine z_mput (pc' := 296) X 12 5 rfl (by decide) q2075 rfl rfl rfl (by first | assumption | omega) dX8_isPart_293 rfl (fun hR293 => ?_)
    refine z_iconst (pc' := 297) X dX8_isPart_296 rfl ?_
    refine z_zreturn X dX8_isPart_297 (by first | exact nar_0 | exact nar_1 | exact nar_b (by omega)) (Nat.le_refl _) (Nat.le_refl _) (fun _ hh => ⟨_, hh, _, rfl, ?_, ?_⟩)
    · first | assumption | omega
    · have eP : prt tx p = (0, p, w0) := by
        unfold prt
        rw [if_neg s40_61, if_neg s40_98, if_neg s40_100, if_neg s40_109, if_neg s40_110, if_neg s40_115]
      rw [eP]
      refine ⟨rfl, by show _ = p; rw [mset_s]; omega, ?_, fun q => absurd (show (0 : Int) = 1 from q) (by decide)⟩
      exact hfA.tr (pfk.sp 6 rfl).2 (by decide)
  · refine z_iconst (pc' := 12) X dX8_isPart_11 rfl ?_
    refine z_zreturn X dX8_isPart_12 (by first | exact nar_0 | exact nar_1 | exact nar_b (by omega)) (Nat.le_refl _) (Nat.le_refl _) (fun _ hh => ⟨_, hh, _, rfl, ?_, ?_⟩)
    · first | assumption | omega
    · have eP : prt tx p = (0, p, w0) := by
        have e0 : tS tx p = -1 := tS_n (by omega)
        unfold prt
        rw [e0]
        rfl
      rw [eP]
      exact ⟨rfl, hp1, ⟨fun _ _ => rfl, fun _ _ _ _ => rfl, fun _ _ => rfl⟩, fun q => absurd (show (0 : Int) = 1 from q) (by decide)⟩
end M21

/-! THE STATE: beaten -/
section ZS11
theorem goodL_b {s : Int} : ∀ {bs : List Bl}, (∀ b ∈ bs, okB b) → 0 ≤ goodL s bs ∧ goodL s bs ≤ 300 * bs.length
  | [], _ => ⟨Int.le_refl _, Int.le_refl _⟩
  | b :: t, h => by
    have ih := goodL_b (s := s) (bs := t) fun x hx => h x (List.mem_cons_of_mem _ hx)
    have hb := (h b List.mem_cons_self).2.1
    have e0 : goodL s (b :: t) = (if b.1 = s ∧ b.2.2.2 ≠ -1 then b.2.1 else 0) + goodL s t := rfl
    rw [e0, List.length_cons]
    split <;> omega
theorem whyB_1 {S : St} {v n : Int} (h : 0 < S.1 (117 + 3 * v)) : whyBS S v n = 1 := if_pos h
theorem whyB_k {S : St} {v n k : Int} (hu : ¬ 0 < S.1 (117 + 3 * v)) (hk : 0 ≤ k ∧ k < 4) (h : ∀ j, 0 ≤ j → j < k → ¬ goodL j S.2.1 < mShare S.1 n j) (hl : goodL k S.2.1 < mShare S.1 n k) : whyBS S v n = 2 + k := by
  unfold whyBS
  rw [if_neg hu]
  obtain rfl | rfl | rfl | rfl : k = 0 ∨ k = 1 ∨ k = 2 ∨ k = 3 := by omega
  · rw [if_pos hl]; rfl
  · rw [if_neg (h 0 (by decide) (by decide)), if_pos hl]; rfl
  · rw [if_neg (h 0 (by decide) (by decide)), if_neg (h 1 (by decide) (by decide)), if_pos hl]; rfl
  · rw [if_neg (h 0 (by decide) (by decide)), if_neg (h 1 (by decide) (by decide)), if_neg (h 2 (by decide) (by decide)), if_pos hl]; rfl
theorem whyB_0 {S : St} {v n : Int} (hu : ¬ 0 < S.1 (117 + 3 * v)) (h : ∀ j, 0 ≤ j → j < 4 → ¬ goodL j S.2.1 < mShare S.1 n j) : whyBS S v n = 0 := by
  unfold whyBS
  rw [if_neg hu, if_neg (h 0 (by decide) (by decide)), if_neg (h 1 (by decide) (by decide)), if_neg (h 2 (by decide) (by decide)), if_neg (h 3 (by decide) (by decide))]
theorem whyB_n {S : St} {v n : Int} (h : whyBS S v n = 0) : ¬ 0 < S.1 (117 + 3 * v) ∧ ∀ j, 0 ≤ j → j < 4 → mShare S.1 n j ≤ goodL j S.2.1 := by
  unfold whyBS at h
  (repeat' split at h) <;> first | omega | skip
  rename_i a b c d e
  refine ⟨a, fun j x y => ?_⟩
  obtain rfl | rfl | rfl | rfl : j = 0 ∨ j = 1 ∨ j = 2 ∨ j = 3 := by omega
  all_goals omega
theorem whyBS_b {S : St} {v n : Int} : 0 ≤ whyBS S v n ∧ whyBS S v n ≤ 5 := by
  unfold whyBS
  (repeat' split) <;> omega
def oneQ (s l : Int) : Int → Int := fun j => if j = s then l else 0
theorem beatX_tk {s l : Int} {e : El} (he : okE e) (hl : 0 ≤ l) : beatX (oneQ s l) (abB e) = tkX s l e := by
  have hm := mo_ab he.2.2.2.2 he.2.2.2.1.1
  have h2 := he.2.1
  unfold beatX tkX
  show (if (abB e).2.2.2 = -1 then 0 else min (if e.1 = s then l else 0) e.2.1) = _
  by_cases c : e.2.2.2.2 = 0
  · rw [if_neg (by rw [hm]; omega)]
    by_cases c2 : e.1 = s
    · rw [if_pos c2, if_pos ⟨c2, c⟩]
      split <;> omega
    · rw [if_neg c2, if_neg fun hh => c2 hh.1]
      omega
  · have h4 := he.2.2.2.2
    rw [if_pos (by rw [hm]; omega), if_neg fun hh => c hh.2]
theorem oneQ_up {s l x : Int} {j : Int} (h : j ≠ s → x = 0) : iup (oneQ s l) j (oneQ s l j - x) = oneQ s (l - x) := by
  funext i
  unfold iup oneQ
  by_cases c : j = s
  · subst c
    by_cases c2 : i = j
    · rw [if_pos c2, if_pos rfl, if_pos c2]
    · rw [if_neg c2, if_neg c2, if_neg c2]
  · rw [h c, if_neg c]
    by_cases c2 : i = j
    · rw [if_pos c2, if_neg (by omega)]
      omega
    · rw [if_neg c2]
      split <;> omega
theorem tk_B {s : Int} : ∀ {L : ELs} {l : Int}, 0 ≤ l → (∀ p ∈ L, okE p.2) → ((gnR (tkX s) tkW l L).filter nzB).map (fun p => abB p.2) = beatL (oneQ s l) (L.map (fun p => abB p.2))
  | [], _, _, _ => rfl
  | p :: t, l, hl, h => by
    have he := h p List.mem_cons_self
    obtain ⟨b1, b2, b3⟩ := tkX_b (s := s) hl he
    have ih := tk_B (s := s) (L := t) (l := l - tkX s l p.2) (by omega) fun x hx => h x (List.mem_cons_of_mem _ hx)
    have e0 : gnR (tkX s) tkW l (p :: t) = (p.1, tkW p.2 (tkX s l p.2)) :: gnR (tkX s) tkW (l - tkX s l p.2) t := rfl
    have e1 : iup (oneQ s l) (abB p.2).1 (oneQ s l (abB p.2).1 - tkX s l p.2) = oneQ s (l - tkX s l p.2) := oneQ_up fun hn => by
      unfold tkX
      exact if_neg fun hh => hn hh.1
    rw [e0, List.map_cons, beatL_c, beatX_tk he hl, e1]
    by_cases hz : (abB p.2).2.1 - tkX s l p.2 = 0
    · rw [List.filter_cons_of_neg (nzB_f hz), if_pos hz, ih]
    · rw [List.filter_cons_of_pos (nzB_t hz), if_neg hz, List.map_cons, ih]
      rfl
theorem beatL_add : ∀ {bs : List Bl} {p q : Int → Int}, (∀ b ∈ bs, 0 ≤ b.2.1) → (∀ j, (p j = 0 ∨ q j = 0) ∧ 0 ≤ p j ∧ 0 ≤ q j) → beatL q (beatL p bs) = beatL (fun j => p j + q j) bs
  | [], _, _, _, _ => rfl
  | b :: t, p, q, hb, h => by
    have hR := hb b List.mem_cons_self
    have ih := fun (p' q' : Int → Int) (h' : ∀ j, (p' j = 0 ∨ q' j = 0) ∧ 0 ≤ p' j ∧ 0 ≤ q' j) => beatL_add (bs := t) (p := p') (q := q') (fun x hx => hb x (List.mem_cons_of_mem _ hx)) h'
    obtain ⟨h1, h2, h3⟩ := h b.1
    rw [beatL_c, beatL_c]
    by_cases hm : b.2.2.2 = -1
    · have x0 : ∀ r : Int → Int, beatX r b = 0 := fun r => if_pos hm
      rw [x0, x0, Int.sub_zero, Int.sub_zero, iup_self, Int.sub_zero, iup_self (f := fun j => p j + q j)]
      by_cases c : b.2.1 = 0
      · rw [if_pos c, if_pos c, ih p q h]
      · rw [if_neg c, if_neg c, beatL_c, show beatX q (b.1, b.2.1, b.2.2.1, b.2.2.2) = 0 from if_pos hm, Int.sub_zero, if_neg c, Int.sub_zero, iup_self, ih p q h]
    · have xm : ∀ r : Int → Int, beatX r b = min (r b.1) b.2.1 := fun r => if_neg hm
      rw [xm, xm]
      by_cases c0 : q b.1 = 0
      · rw [c0, Int.add_zero]
        have e1 : iup (fun j => p j + q j) b.1 (p b.1 - min (p b.1) b.2.1) = fun j => iup p b.1 (p b.1 - min (p b.1) b.2.1) j + q j := by
          funext j
          unfold iup
          by_cases cj : j = b.1
          · rw [if_pos cj, if_pos cj, cj, c0, Int.add_zero]
          · rw [if_neg cj, if_neg cj]
        have hd : ∀ j, (iup p b.1 (p b.1 - min (p b.1) b.2.1) j = 0 ∨ q j = 0) ∧ 0 ≤ iup p b.1 (p b.1 - min (p b.1) b.2.1) j ∧ 0 ≤ q j := fun j => by
          unfold iup
          by_cases cj : j = b.1
          · rw [if_pos cj, cj, c0]
            exact ⟨Or.inr rfl, by omega, Int.le_refl _⟩
          · rw [if_neg cj]
            exact h j
        rw [e1]
        by_cases c : b.2.1 - min (p b.1) b.2.1 = 0
        · rw [if_pos c, if_pos c, ih _ _ hd]
        · rw [if_neg c, if_neg c, beatL_c]
          have x1 : beatX q (b.1, b.2.1 - min (p b.1) b.2.1, b.2.2.1, b.2.2.2) = 0 := (if_neg hm).trans (by show min (q b.1) (b.2.1 - min (p b.1) b.2.1) = 0; rw [c0]; omega)
          rw [x1, Int.sub_zero, if_neg c, Int.sub_zero, iup_self, ih _ _ hd]
      · have cp : p b.1 = 0 := by omega
        have m0 : min (p b.1) b.2.1 = 0 := by omega
        rw [m0, cp, Int.sub_zero, Int.sub_zero, Int.zero_add, show iup p b.1 0 = p by rw [← cp, iup_self]]
        have e1 : iup (fun j => p j + q j) b.1 (q b.1 - min (q b.1) b.2.1) = fun j => p j + iup q b.1 (q b.1 - min (q b.1) b.2.1) j := by
          funext j
          unfold iup
          by_cases cj : j = b.1
          · rw [if_pos cj, if_pos cj, cj, cp, Int.zero_add]
          · rw [if_neg cj, if_neg cj]
        have hd : ∀ j, (p j = 0 ∨ iup q b.1 (q b.1 - min (q b.1) b.2.1) j = 0) ∧ 0 ≤ p j ∧ 0 ≤ iup q b.1 (q b.1 - min (q b.1) b.2.1) j := fun j => by
          unfold iup
          by_cases cj : j = b.1
          · rw [if_pos cj, cj, cp]
            exact ⟨Or.inl rfl, Int.le_refl _, by omega⟩
          · rw [if_neg cj]
            exact h j
        rw [e1]
        by_cases c : b.2.1 = 0
        · rw [if_pos c, if_pos (by omega)]
          rw [← ih _ _ hd, show min (q b.1) b.2.1 = 0 by omega, Int.sub_zero, iup_self]
        · rw [if_neg c, beatL_c, show beatX q (b.1, b.2.1, b.2.2.1, b.2.2.2) = min (q b.1) b.2.1 from if_neg hm, ih _ _ hd]
theorem beatL_u : ∀ {bs : List Bl} {p : Int → Int}, (∀ b ∈ bs, okB b) → (∀ j, 0 ≤ j → j < 4 → 0 ≤ p j ∧ p j ≤ goodL j bs) → lsum (fun b : Bl => 40 * b.2.1) (beatL p bs) = lsum (fun b : Bl => 40 * b.2.1) bs - 40 * (p 0 + p 1 + p 2 + p 3)
  | [], p, _, h => by
    have g0 : ∀ j, goodL j [] = 0 := fun _ => rfl
    have a0 := h 0 (by decide) (by decide)
    have a1 := h 1 (by decide) (by decide)
    have a2 := h 2 (by decide) (by decide)
    have a3 := h 3 (by decide) (by decide)
    rw [g0] at a0 a1 a2 a3
    show (0 : Int) = 0 - 40 * _
    omega
  | b :: t, p, hk, h => by
    obtain ⟨k0, k1, k2, k3⟩ := hk b List.mem_cons_self
    have e0 : ∀ s, goodL s (b :: t) = (if b.1 = s ∧ b.2.2.2 ≠ -1 then b.2.1 else 0) + goodL s t := fun _ => rfl
    have gt : ∀ s, 0 ≤ goodL s t := fun s => (goodL_b fun x hx => hk x (List.mem_cons_of_mem _ hx)).1
    have hx : 0 ≤ beatX p b ∧ beatX p b ≤ p b.1 ∧ beatX p b ≤ b.2.1 ∧ p b.1 - beatX p b ≤ goodL b.1 t := by
      have h1 := h b.1 k0.1 (by omega)
      rw [e0] at h1
      have := gt b.1
      unfold beatX
      by_cases c : b.2.2.2 = -1
      · rw [if_pos c]
        rw [if_neg fun hh => hh.2 c] at h1
        omega
      · rw [if_neg c]
        rw [if_pos ⟨rfl, c⟩] at h1
        omega
    have ih := beatL_u (bs := t) (p := iup p b.1 (p b.1 - beatX p b)) (fun x hx => hk x (List.mem_cons_of_mem _ hx)) fun j a c => by
      by_cases e : j = b.1
      · rw [e, iup_s]
        omega
      · rw [iup_n e]
        have h1 := h j a c
        rw [e0, if_neg fun hh => e hh.1.symm] at h1
        omega
    have es : iup p b.1 (p b.1 - beatX p b) 0 + iup p b.1 (p b.1 - beatX p b) 1 + iup p b.1 (p b.1 - beatX p b) 2 + iup p b.1 (p b.1 - beatX p b) 3 = p 0 + p 1 + p 2 + p 3 - beatX p b := by
      generalize beatX p b = x
      obtain e | e | e | e : b.1 = 0 ∨ b.1 = 1 ∨ b.1 = 2 ∨ b.1 = 3 := by omega
      all_goals
        rw [e]
        unfold iup
        simp only [if_pos, if_neg, reduceIte, Int.reduceEq]
        omega
    rw [es] at ih
    have e1 : ∀ (c : Bl) (T : List Bl), lsum (fun b : Bl => 40 * b.2.1) (c :: T) = 40 * c.2.1 + lsum (fun b : Bl => 40 * b.2.1) T := fun _ _ => rfl
    rw [beatL_c]
    split
    · rw [ih, e1]
      omega
    · rw [e1, ih, e1]
      dsimp only
      omega
/-- the bales after k sorts were taken -/
def bkL (p : Int → Int) (L : ELs) : Nat → ELs
  | 0 => L
  | k + 1 => (gnR (tkX k) tkW (p k) (bkL p L k)).filter nzB
theorem bkL_ok {p : Int → Int} {L : ELs} (hE : ∀ x ∈ L, okE x.2) (hp : ∀ j, 0 ≤ j → j < 4 → 0 ≤ p j) : ∀ {k : Nat}, k ≤ 4 → (∀ x ∈ bkL p L k, okE x.2) ∧ (bkL p L k).length ≤ L.length
  | 0, _ => ⟨hE, Nat.le_refl _⟩
  | k + 1, h => by
    obtain ⟨a, b⟩ := bkL_ok hE hp (k := k) (by omega)
    refine ⟨fun x hx => tkR_ok (hp k (by omega) (by omega)) a x (List.mem_filter.mp hx).1, Nat.le_trans (List.length_filter_le _ _) ?_⟩
    rw [gnR_len]
    exact b
theorem bkL_B {p : Int → Int} {L : ELs} {bs : List Bl} (hE : ∀ x ∈ L, okE x.2) (hp : ∀ j, 0 ≤ j → j < 4 → 0 ≤ p j) (hL : L.map (fun x => abB x.2) = bs) (hk : ∀ b ∈ bs, okB b) : (bkL p L 4).map (fun x => abB x.2) = beatL p bs := by
  have s0 := bkL_ok hE hp (k := 0) (by decide)
  have s1 := bkL_ok hE hp (k := 1) (by decide)
  have s2 := bkL_ok hE hp (k := 2) (by decide)
  have s3 := bkL_ok hE hp (k := 3) (by decide)
  have p0 := hp 0 (by decide) (by decide)
  have p1 := hp 1 (by decide) (by decide)
  have p2 := hp 2 (by decide) (by decide)
  have p3 := hp 3 (by decide) (by decide)
  have e1 : (bkL p L 1).map (fun x => abB x.2) = beatL (oneQ 0 (p 0)) bs := by rw [← hL]; exact tk_B (s := 0) p0 s0.1
  have e2 : (bkL p L 2).map (fun x => abB x.2) = beatL (oneQ 1 (p 1)) ((bkL p L 1).map (fun x => abB x.2)) := tk_B (s := 1) p1 s1.1
  have e3 : (bkL p L 3).map (fun x => abB x.2) = beatL (oneQ 2 (p 2)) ((bkL p L 2).map (fun x => abB x.2)) := tk_B (s := 2) p2 s2.1
  have e4 : (bkL p L 4).map (fun x => abB x.2) = beatL (oneQ 3 (p 3)) ((bkL p L 3).map (fun x => abB x.2)) := tk_B (s := 3) p3 s3.1
  have hr : ∀ b ∈ bs, 0 ≤ b.2.1 := fun b hb => (hk b hb).2.1.1
  rw [e4, e3, e2, e1, beatL_add hr (fun j => by unfold oneQ; (repeat' split) <;> omega), beatL_add hr (fun j => by unfold oneQ; (repeat' split) <;> omega), beatL_add hr (fun j => by unfold oneQ; (repeat' split) <;> omega)]
  refine beatL_congr bs hk fun j a b => ?_
  unfold oneQ
  obtain rfl | rfl | rfl | rfl : j = 0 ∨ j = 1 ∨ j = 2 ∨ j = 3 := by omega
  all_goals simp
theorem beat_tie {f : Int → Int} {Ls : Nat → ELs} {S : St} {v n : Int} {q : Nat} {e : El} {p : Int → Int} (T : tie f Ls S) (hk : okY S) (hv : 0 ≤ v ∧ v < 3) (hn : 1 ≤ n ∧ n ≤ 200) (hw : whyBS S v n = 0) (hp : ∀ j, 0 ≤ j → j < 4 → p j = mShare S.1 n j) (hq : (Ls 2)[v.toNat]? = some (q, e)) {x : Int} (hx : x = zsum (fun j => p j * strn j) 4 / n) :
    tie f (lup (lup Ls 1 (bkL p (Ls 1) 4)) 2 ((Ls 2).set v.toNat (q, (40 * n, 0, x, e.2.2.2.1, e.2.2.2.2)))) (beatS v n S) := by
  obtain ⟨hu, hg⟩ := whyB_n hw
  obtain ⟨m0, m1⟩ := mSh_sum hk.1.T (n := n) (by omega)
  have hm : ∀ j, 0 ≤ j → j < 4 → 0 ≤ mShare S.1 n j := fun j a b => by
    obtain rfl | rfl | rfl | rfl : j = 0 ∨ j = 1 ∨ j = 2 ∨ j = 3 := by omega
    all_goals omega
  have hp0 : ∀ j, 0 ≤ j → j < 4 → 0 ≤ p j := fun j a b => by rw [hp j a b]; exact hm j a b
  have hE : ∀ x ∈ Ls 1, okE x.2 := fun x hx => (dryY_of T hk x hx).1
  have hB := bkL_B hE hp0 T.2.2.1.1 hk.2.1
  have hO := bkL_ok hE hp0 (k := 4) (Nat.le_refl _)
  rw [beatL_congr S.2.1 hk.2.1 hp] at hB
  have hU := beatL_u hk.2.1 fun j a b => ⟨hm j a b, hg j a b⟩
  have hku := hk.1.2.2.2.1 v (by omega) (by omega)
  have TC := T.C
  have TV := T.V
  have TM := T.M
  obtain ⟨T0, -, ⟨-, Tb1, -⟩, -, -, TP, TR, Ta, Tz⟩ := T
  have N3 : ∀ j, (j < 117 + 3 * v ∨ 117 + 3 * v + 2 < j) → (beatS v n S).1 j = S.1 j := fun j hj => by
    show iup (iup (iup S.1 _ _) _ _) _ _ j = _
    rw [iup_n (by omega), iup_n (by omega), iup_n (by omega)]
  have A0 : (beatS v n S).1 (117 + 3 * v) = 40 * n := by
    show iup (iup (iup S.1 _ _) _ _) _ _ _ = _
    rw [iup_n (by omega), iup_n (by omega), iup_s]
  refine ⟨fun j hj => by rw [T0 j hj]; exact (N3 j (by omega)).symm, TC.keep (fun j a b => N3 j (by omega)), ⟨hB, Nat.le_trans hO.2 Tb1, fun y hy => ⟨(hO.1 y hy).2.2.2.2, (hO.1 y hy).2.2.2.1⟩⟩, TV.set hv.1 A0.symm ?_ ?_ (fun j a b c => N3 j c), TM.keep (fun j a b => N3 j (by omega)), TP, TR, ?_, Tz⟩
  · show 0 = iup (iup (iup S.1 _ _) _ _) _ _ _
    rw [iup_n (by omega), iup_s]
  · show x = iup (iup (iup S.1 _ _) _ _) _ _ _
    rw [iup_s, hx]
    have z4 : ∀ f : Int → Int, zsum f 4 = 0 + f 0 + f 1 + f 2 + f 3 := fun f => rfl
    rw [z4, z4, hp 0 (by decide) (by decide), hp 1 (by decide) (by decide), hp 2 (by decide) (by decide), hp 3 (by decide) (by decide)]
  · rw [Ta]
    unfold unitsS
    rw [N3 7 (by omega)]
    show _ = S.1 7 + lsum (fun b : Bl => 40 * b.2.1) (beatL (mShare S.1 n) S.2.1) + ((beatS v n S).1 117 + (beatS v n S).1 120 + (beatS v n S).1 123) + lsum (fun p : Pl => p.2.2.2.1 * mZ p.2.1) S.2.2.1 + lsum unitsQ S.2.2.2
    rw [hU]
    obtain rfl | rfl | rfl : v = 0 ∨ v = 1 ∨ v = 2 := by omega
    · rw [show (beatS 0 n S).1 117 = 40 * n from A0, N3 120 (by decide), N3 123 (by decide)]
      have hu : ¬ 0 < S.1 117 := hu
      have hku : (0 ≤ S.1 117 ∧ S.1 117 ≤ 8000) ∧ _ := hku
      omega
    · rw [show (beatS 1 n S).1 120 = 40 * n from A0, N3 117 (by decide), N3 123 (by decide)]
      have hu : ¬ 0 < S.1 120 := hu
      have hku : (0 ≤ S.1 120 ∧ S.1 120 ≤ 8000) ∧ _ := hku
      omega
    · rw [show (beatS 2 n S).1 123 = 40 * n from A0, N3 120 (by decide), N3 117 (by decide)]
      have hu : ¬ 0 < S.1 123 := hu
      have hku : (0 ≤ S.1 123 ∧ S.1 123 ≤ 8000) ∧ _ := hku
      omega
end ZS11

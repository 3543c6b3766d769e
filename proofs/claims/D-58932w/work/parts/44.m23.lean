/-! THE MODEL: reading a whole text -/
section M23
/-- a whole text read: whether, the place behind (or of the first error), the parts -/
def rdA (tx : List Int) : Nat → Int → Int × Int × List Wk
  | 0, p => (0, p, [])
  | n + 1, p => if (prt tx p).1 = 0 then (0, (prt tx p).2.1, []) else if tS tx (prt tx p).2.1 = 59 then ((rdA tx n ((prt tx p).2.1 + 1)).1, (rdA tx n ((prt tx p).2.1 + 1)).2.1, (prt tx p).2.2 :: (rdA tx n ((prt tx p).2.1 + 1)).2.2) else (bit ((prt tx p).2.1 = tx.length), (prt tx p).2.1, [(prt tx p).2.2])
theorem rdA_s {tx : List Int} {n : Nat} {p : Int} : rdA tx (n + 1) p = if (prt tx p).1 = 0 then (0, (prt tx p).2.1, []) else if tS tx (prt tx p).2.1 = 59 then ((rdA tx n ((prt tx p).2.1 + 1)).1, (rdA tx n ((prt tx p).2.1 + 1)).2.1, (prt tx p).2.2 :: (rdA tx n ((prt tx p).2.1 + 1)).2.2) else (bit ((prt tx p).2.1 = tx.length), (prt tx p).2.1, [(prt tx p).2.2]) := rfl
def rdW (tx : List Int) : Int × Int × List Wk := rdA tx 61 0
theorem rdA_len {tx : List Int} : ∀ (n : Nat) (p : Int), (rdA tx n p).1 ≠ 0 → (rdA tx n p).2.1 = tx.length
  | 0, p, h => absurd rfl h
  | n + 1, p, h => by
    rw [rdA_s] at h ⊢
    split at h
    · exact absurd rfl h
    · rename_i h1
      rw [if_neg h1]
      split at h
      · rename_i h2
        rw [if_pos h2]
        exact rdA_len n _ h
      · rename_i h2
        rw [if_neg h2]
        exact Classical.byContradiction fun q => h (bit_0 q)
theorem rdW_len {tx : List Int} (_ : tx.length ≤ 60) (h : (rdW tx).1 ≠ 0) : (rdW tx).2.1 = tx.length := rdA_len 61 0 h
/-- the row of parts told holds these -/
def tRow (T : Int → Int) (ws : List Wk) : Prop := ∀ (i : Nat) (w : Wk), ws[i]? = some w → tellW T (6 * (i : Int)) w
theorem tellW.same {T T' : Int → Int} {b : Int} {w : Wk} (h : tellW T b w) (e : ∀ j, b ≤ j → j < b + 6 → T' j = T j) : tellW T' b w := by
  obtain ⟨h0, h1, h2, h3, h4, h5⟩ := h
  exact ⟨(e _ (by omega) (by omega)).trans h0, (e _ (by omega) (by omega)).trans h1, fun q => (e _ (by omega) (by omega)).trans (h2 q), fun q => (e _ (by omega) (by omega)).trans (h3 q), fun q => (e _ (by omega) (by omega)).trans (h4 q), fun q => (e _ (by omega) (by omega)).trans (h5 q)⟩
theorem tRow.push {T T' : Int → Int} {ws : List Wk} {w : Wk} (h : tRow T ws) (e : ∀ j, j < 6 * (ws.length : Int) → T' j = T j) (hw : tellW T' (6 * (ws.length : Int)) w) : tRow T' (ws ++ [w]) := by
  intro i v hi
  by_cases hlt : i < ws.length
  · rw [List.getElem?_append_left hlt] at hi
    exact (h i v hi).same (fun j a b => e j (by omega))
  · rw [List.getElem?_append_right (by omega)] at hi
    obtain rfl : i = ws.length := by
      have := (List.getElem?_eq_some_iff.mp hi).1
      simp only [List.length_cons, List.length_nil] at this
      omega
    rw [Nat.sub_self] at hi
    cases hi
    exact hw
/-- all that the reader keeps -/
def rdF (M M' : MM) : Prop := (∀ j, j ≠ 5 → j ≠ 6 → M' 0 j = M 0 j) ∧ ∀ q, q ≠ 0 → q ≠ 8 → q ≠ 9 → M' q = M q
theorem rdF.pf {M M1 M2 : MM} (h : rdF M M1) (h' : pfk M1 M2 0) : rdF M M2 := ⟨fun j a b => (h'.1 j a).trans (h.1 j a b), fun q x y z => (h'.2.1 q x y z).trans (h.2 q x y z)⟩
theorem rdF.st {M M1 : MM} (h : rdF M M1) {k z : Int} (hk : k = 5 ∨ k = 6) : rdF M (mset M1 0 k z) := ⟨fun j a b => (mset_k (by omega)).trans (h.1 j a b), fun q x y z => (mset_r x).trans (h.2 q x y z)⟩
theorem rdF.tx {M M1 : MM} {tx : List Int} (h : rdF M M1) (ht : tRep M tx) : tRep M1 tx := ⟨(h.1 2 (by decide) (by decide)).trans ht.1, ht.2.1, fun i c hi => by rw [h.2 7 (by decide) (by decide) (by decide)]; exact ht.2.2 i c hi⟩
/-- what isWhole has told -/
def whlP (tx : List Int) (M : MM) (r : Int) (M' : MM) : Prop := r = (rdW tx).1 ∧ M' 0 5 = (rdW tx).2.1 ∧ rdF M M' ∧ ((rdW tx).1 = 1 → M' 0 6 = (rdW tx).2.2.length ∧ tRow (M' 8) (rdW tx).2.2 ∧ (rdW tx).2.2.length ≤ 31 ∧ ∀ w ∈ (rdW tx).2.2, okW w)
theorem Y_X8_isWhole : zYV yX8_isWhole cX8_isWhole 2 (some .boolean) 0 := ⟨⟨q2604, qs97, q132, q2605⟩, by decide +kernel, by decide⟩
set_option maxRecDepth 100000 in
theorem c_X8_isWhole (l : Launch) (g : zG) (ma : Nat → Nat) (M : MM) (tx : List Int) (ht : tRep M tx) (hk : ∀ c ∈ tx, 32 ≤ c ∧ c ≤ 126) : mInt l yX8_isWhole cX8_isWhole 2 (some .boolean) 6 [vR (ma 0)] g ma M (fun r M' => whlP tx M r M') := by
  refine mInt.mk (L0 := [some (vR (ma 0)), none]) (by decide) rfl (Nat.le_of_ble_eq_true rfl) rfl (fun C h hg hl hR X => ?_)
  subst hg hl
  have hl2 := ht.1
  have hl3 := ht.2.1
  refine z_aload_n (pc' := 1) X dX8_isWhole_0 rfl rfl ?_
  refine z_iconst (pc' := 2) X dX8_isWhole_1 rfl ?_
  refine z_mput (pc' := 5) X 12 5 rfl (by decide) q2075 rfl rfl rfl (by first | assumption | omega) dX8_isWhole_2 rfl (fun hR2 => ?_)
  refine z_aload_n (pc' := 6) X dX8_isWhole_5 rfl rfl ?_
  refine z_iconst (pc' := 7) X dX8_isWhole_6 rfl ?_
  refine z_mput (pc' := 10) X 14 6 rfl (by decide) q2077 rfl rfl rfl (by first | assumption | omega) dX8_isWhole_7 rfl (fun hR7 => ?_)
  refine z_iconst (pc' := 11) X dX8_isWhole_10 rfl ?_
  refine z_istore_n (pc' := 12) X dX8_isWhole_11 rfl (by decide) rfl ?_
  dsimp only [List.set]
  have loop12 : ∀ (N : Nat) (w q : Int) (n : Nat) (ws : List Wk) (Mx : MM), (Mx 0 5 = q ∧ 0 ≤ q ∧ q ≤ tx.length) → (rdF M Mx) → (Mx 0 6 = (ws.length : Int) ∧ 2 * (ws.length : Int) ≤ q + (1 - w) ∧ tRow (Mx 8) ws ∧ ∀ v ∈ ws, okW v) → ((w = 1 ∧ (tx.length : Int) - q < n ∧ ((rdW tx).1 = (rdA tx n q).1 ∧ (rdW tx).2.1 = (rdA tx n q).2.1 ∧ (rdW tx).2.2 = ws ++ (rdA tx n q).2.2)) ∨ (w = 0 ∧ tS tx q ≠ 59 ∧ rdW tx = (bit (q = tx.length), q, ws))) → (2 * tx.length - 2 * q + w).toNat < N → ZP C 2 (mF ma h (Mx)) 0 0 [some (vR (ma 0)), some (vI w)] 12 [] := by
    intro N
    induction N with
    | zero => intro w q n ws Mx hq hf hw hc hN; exact absurd hN (Nat.not_lt_zero _)
    | succ N ih12 =>
      intro w q n ws Mx hq hf hw hc hN
      refine ZP.fact (P := mR (Mx)) (fun _ h => h.1.2.2.2) (fun hR12 => ?_)
      have hbp := prt_b (tx := tx) (p := q) hq.2 hl3
      refine z_iload_n (pc' := 13) X dX8_isWhole_12 rfl rfl ?_
      refine z_if_eq (tgt := 45) (pc' := 16) X (by first | assumption | omega) dX8_isWhole_13 rfl (by decide) (fun c13 => ?_) (fun c13 => ?_)
      · refine z_aload_n (pc' := 46) X dX8_isWhole_45 rfl rfl ?_
        have hv46 := hR12 0 5
        refine z_mget (pc' := 49) X 12 rfl (by decide) q2075 rfl dX8_isWhole_46 rfl ?_
        rw [hq.1]
        rw [hq.1] at hv46
        refine z_aload_n (pc' := 50) X dX8_isWhole_49 rfl rfl ?_
        have hv50 := hR12 0 2
        refine z_mget (pc' := 53) X 9 rfl (by decide) q2072 rfl dX8_isWhole_50 rfl ?_
        have e50 : Mx 0 2 = tx.length := (hf.1 2 (by decide) (by decide)).trans hl2
        rw [e50]
        rw [e50] at hv50
        refine z_icmp_ne (tgt := 60) (pc' := 56) X (by first | assumption | omega) (by first | assumption | omega) dX8_isWhole_53 rfl (by decide) (fun c53 => ?_) (fun c53 => ?_)
        · refine z_iconst (pc' := 61) X dX8_isWhole_60 rfl ?_
          refine z_zreturn X dX8_isWhole_61 (by first | exact nar_0 | exact nar_1 | exact nar_b (by omega)) (Nat.le_refl _) (Nat.le_refl _) (fun _ hh => ⟨_, hh, _, rfl, ?_, ?_⟩)
          · first | assumption | omega
          · obtain ⟨-, -, e⟩ := hc.resolve_left (fun x => absurd (x.1.symm.trans c13) (by decide))
            exact ⟨by rw [e]; show _ = bit (q = (tx.length : Int)); unfold bit; split <;> omega, by rw [e]; exact hq.1, hf, fun _ => by rw [e]; exact ⟨hw.1, hw.2.2.1, by show ws.length ≤ 31; omega, hw.2.2.2⟩⟩
        · refine z_iconst (pc' := 57) X dX8_isWhole_56 rfl ?_
          refine z_goto (tgt := 61) X dX8_isWhole_57 (by decide) ?_
          refine z_zreturn X dX8_isWhole_61 (by first | exact nar_0 | exact nar_1 | exact nar_b (by omega)) (Nat.le_refl _) (Nat.le_refl _) (fun _ hh => ⟨_, hh, _, rfl, ?_, ?_⟩)
          · first | assumption | omega
          · obtain ⟨-, -, e⟩ := hc.resolve_left (fun x => absurd (x.1.symm.trans c13) (by decide))
            exact ⟨by rw [e]; show _ = bit (q = (tx.length : Int)); unfold bit; split <;> omega, by rw [e]; exact hq.1, hf, fun _ => by rw [e]; exact ⟨hw.1, hw.2.2.1, by show ws.length ≤ 31; omega, hw.2.2.2⟩⟩
      · obtain ⟨hw1, hn1, e1, e2, e3⟩ := hc.resolve_right (fun x => c13 x.1)
        refine z_aload_n (pc' := 17) X dX8_isWhole_16 rfl rfl ?_
        refine z_V_int0 (pc' := 20) X rfl Y_X8_isPart q2606 dX8_isWhole_17 rfl (by decide) (Nat.le_refl _) (Nat.le_refl _) (Nat.le_of_ble_eq_true rfl) (c_X8_isPart _ _ _ _ q tx (hf.tx ht) hq hk (by omega)) (fun r17 M17 hr17 hp17 hR17 => ?_)
        obtain ⟨r17e, s17, k17, v17⟩ := hp17
        have u17 := k17.1 6 (by decide)
        refine z_if_ne (tgt := 25) (pc' := 23) X (by first | assumption | omega) dX8_isWhole_20 rfl (by decide) (fun c20 => ?_) (fun c20 => ?_)
        · refine z_aload_n (pc' := 26) X dX8_isWhole_25 rfl rfl ?_
          refine z_dup (pc' := 27) X rfl dX8_isWhole_26 rfl ?_
          have hv27 := hR17 0 6
          refine z_mget (pc' := 30) X 14 rfl (by decide) q2077 rfl dX8_isWhole_27 rfl ?_
          rw [u17, hw.1]
          rw [u17, hw.1] at hv27
          refine z_iconst (pc' := 31) X dX8_isWhole_30 rfl ?_
          refine z_iadd (pc' := 32) X dX8_isWhole_31 rfl ?_
          refine z_mput (pc' := 35) X 14 6 rfl (by decide) q2077 rfl rfl rfl (by first | assumption | omega) dX8_isWhole_32 rfl (fun hR32 => ?_)
          refine z_aload_n (pc' := 36) X dX8_isWhole_35 rfl rfl ?_
          refine z_bipush (pc' := 38) X dX8_isWhole_36 rfl (by decide) ?_
          refine z_V_int1 (pc' := 41) X rfl Y_X8_takes q2622 dX8_isWhole_38 rfl (by decide) (Nat.le_refl _) (Nat.le_refl _) (Nat.le_of_ble_eq_true rfl) (c_X8_takes _ _ _ _ 59 (prt tx q).2.1 tx (rdF.tx ((hf.pf k17).st (Or.inr rfl)) ht) ⟨by rw [mset_k (by decide)]; exact s17, by omega, by omega⟩ hk (by decide)) (fun r38 M38 hr38 hp38 hR38 => ?_)
          refine z_istore_n (pc' := 42) X dX8_isWhole_41 rfl (by decide) rfl ?_
          dsimp only [List.set]
          refine z_goto (tgt := 12) X dX8_isWhole_42 (by decide) ?_
          obtain ⟨f38, g38⟩ := hp38
          subst f38
          obtain ⟨m, rfl⟩ : ∃ m, n = m + 1 := ⟨n - 1, by omega⟩
          rw [rdA_s, if_neg (by omega)] at e1 e2 e3
          have hl38 := (show r38 = 1 → (prt tx q).2.1 < tx.length from fun x => tS_lt (tx := tx) (p := (prt tx q).2.1) (by omega))
          have hb17 := hbp.2.2 (by omega)
          have hc2 : (r38 = 1 ∧ (tx.length : Int) - ((prt tx q).2.1 + r38) < m ∧ ((rdW tx).1 = (rdA tx m ((prt tx q).2.1 + r38)).1 ∧ (rdW tx).2.1 = (rdA tx m ((prt tx q).2.1 + r38)).2.1 ∧ (rdW tx).2.2 = (ws ++ [(prt tx q).2.2]) ++ (rdA tx m ((prt tx q).2.1 + r38)).2.2)) ∨ (r38 = 0 ∧ tS tx ((prt tx q).2.1 + r38) ≠ 59 ∧ rdW tx = (bit ((prt tx q).2.1 + r38 = tx.length), (prt tx q).2.1 + r38, ws ++ [(prt tx q).2.2])) := by
            rcases g38 with ⟨x, y⟩ | ⟨x, y⟩
            · rw [if_pos y] at e1 e2 e3
              refine Or.inl ⟨x, by omega, by rw [x]; exact e1, by rw [x]; exact e2, by rw [x, e3, List.append_assoc]; rfl⟩
            · rw [if_neg y] at e1 e2 e3
              refine Or.inr ⟨x, by rw [x, Int.add_zero]; exact y, by rw [x, Int.add_zero]; exact Prod.ext e1 (Prod.ext e2 e3)⟩
          refine ZP.wk (L' := [some (vR (ma 0)), some (vI _)]) (And.intro rfl (And.intro rfl (trivial))) ?_
          exact ih12 r38 ((prt tx q).2.1 + r38) m (ws ++ [(prt tx q).2.2]) _ (by exact ⟨mset_s, by omega, by omega⟩) (by exact ((hf.pf k17).st (Or.inr rfl)).st (Or.inl rfl)) (by exact ⟨by rw [mset_k (by decide), mset_s, List.length_append]; rfl, by rw [List.length_append]; show 2 * ((ws.length + 1 : Nat) : Int) ≤ _; omega, by rw [mset_r (by decide), mset_r (by decide)]; exact hw.2.2.1.push (fun j hj => k17.2.2 j (by omega)) (by rw [← hw.1]; exact v17 (by omega)), fun v hv => (List.mem_append.mp hv).elim (hw.2.2.2 v) (fun x => by rw [List.mem_singleton.mp x]; exact hb17.2)⟩) (by exact hc2) (by omega)
        · refine z_iconst (pc' := 24) X dX8_isWhole_23 rfl ?_
          refine z_zreturn X dX8_isWhole_24 (by first | exact nar_0 | exact nar_1 | exact nar_b (by omega)) (Nat.le_refl _) (Nat.le_refl _) (fun _ hh => ⟨_, hh, _, rfl, ?_, ?_⟩)
          · first | assumption | omega
          · obtain ⟨m, rfl⟩ : ∃ m, n = m + 1 := ⟨n - 1, by omega⟩
            rw [rdA_s, if_pos (by omega)] at e1 e2
            exact ⟨e1.symm, s17.trans e2.symm, hf.pf k17, fun x => absurd (show (0 : Int) = 1 from e1.symm.trans x) (by decide)⟩
  refine ZP.wk (L' := [some (vR (ma 0)), some (vI _)]) (And.intro rfl (And.intro rfl (trivial))) ?_
  exact loop12 _ 1 0 61 [] _ (by exact ⟨by rw [mset_k (by decide), mset_s], by decide, by omega⟩) (by exact ⟨fun j a b => by rw [mset_k b, mset_k a], fun q x y z => by rw [mset_r x, mset_r x]⟩) (by exact ⟨mset_s, by decide, (fun i v hi => (nomatch hi)), (fun v hv => (nomatch hv))⟩) (by exact Or.inl ⟨rfl, by omega, rfl, rfl, rfl⟩) (Nat.lt_succ_self _)
theorem Y_X8_errorPosition : zYV yX8_errorPosition cX8_errorPosition 1 (some .int) 0 := ⟨⟨q2599, q2600, q132, q2601⟩, by decide +kernel, by decide⟩
set_option maxRecDepth 100000 in
theorem c_X8_errorPosition (l : Launch) (g : zG) (ma : Nat → Nat) (M : MM) (A : Ab) (P Q : Int) (hA : mRep M A) (hk : okA P Q A) (hP : P ≤ 900000) (hQ : Q ≤ 9000000) : mInt l yX8_errorPosition cX8_errorPosition 1 (some .int) 7 [vR (ma 0)] g ma M (fun r M' => outP 0 A (rdW A.2.2.2).2.1 A r M') := by
  refine mInt.mk (L0 := [some (vR (ma 0))]) (by decide) rfl (Nat.le_of_ble_eq_true rfl) rfl (fun C h hg hl hR X => ?_)
  subst hg hl
  obtain ⟨hS, hN, hH, hT⟩ := id hA
  obtain ⟨hkS, -, -, -⟩ := id hk
  obtain ⟨⟨kc1, -, kc3, kc4, kc5⟩, kb, kp, kq⟩ := id hkS
  have hI := hk.I hA hP hQ
  have hn := mI_n hI
  have hh0 : 0 ≤ M 0 0 ∧ M 0 0 ≤ 5 := ⟨by rw [hH.1]; omega, by rw [hH.1]; have := hH.2.1; omega⟩
  have s0 := sc_at hA (j := 0) (by unfold scI; omega)
  have s1 := sc_at hA (j := 1) (by unfold scI; omega)
  have hA0 : mRep (mset M 0 3 0) A := hA.num (by decide)
  have hS0 := hA0.1
  have hI0 : mI (mset M 0 3 0) := hk.I hA0 hP hQ
  have q4 := hS.2.1.1
  have q5 := hS.2.2.1.1
  have q6 := hS.2.2.2.1
  have p4 := hS0.2.1.1
  have p5 := hS0.2.2.1.1
  have p6 := hS0.2.2.2.1
  refine z_aload_n (pc' := 1) X dX8_errorPosition_0 rfl rfl ?_
  refine z_iconst (pc' := 2) X dX8_errorPosition_1 rfl ?_
  refine z_mput (pc' := 5) X 10 3 rfl (by decide) q2073 rfl rfl rfl (by first | assumption | omega) dX8_errorPosition_2 rfl (fun hR2 => ?_)
  refine z_aload_n (pc' := 6) X dX8_errorPosition_5 rfl rfl ?_
  refine z_V_int0 (pc' := 9) X rfl Y_X8_isWhole q2602 dX8_errorPosition_6 rfl (by decide) (Nat.le_refl _) (Nat.le_refl _) (Nat.le_of_ble_eq_true rfl) (c_X8_isWhole _ _ _ _ A.2.2.2 (hT.num (by decide)) hk.2.2.2) (fun r6 M6 hr6 hp6 hR6 => ?_)
  obtain ⟨a6, b6, c6, d6⟩ := hp6
  have l6 : M6 0 2 = A.2.2.2.length := (c6.1 2 (by decide) (by decide)).trans (by rw [mset_k (by decide)]; exact hT.1)
  have hA6 : mRep M6 A := hA0.gen (S' := A.1) (by rw [c6.2 1 (by decide) (by decide) (by decide)]; exact hS0) ⟨c6.1 0 (by decide) (by decide), c6.1 1 (by decide) (by decide), c6.1 2 (by decide) (by decide)⟩ (c6.2 2 (by decide) (by decide) (by decide)) (c6.2 3 (by decide) (by decide) (by decide)) (c6.2 7 (by decide) (by decide) (by decide))
  have t6 : M6 0 3 = 0 := (c6.1 3 (by decide) (by decide)).trans mset_s
  refine z_if_eq (tgt := 19) (pc' := 12) X (by first | assumption | omega) dX8_errorPosition_9 rfl (by decide) (fun c9 => ?_) (fun c9 => ?_)
  · refine z_aload_n (pc' := 20) X dX8_errorPosition_19 rfl rfl ?_
    have hv20 := hR6 0 5
    refine z_mget (pc' := 23) X 12 rfl (by decide) q2075 rfl dX8_errorPosition_20 rfl ?_
    refine z_ireturn X dX8_errorPosition_23 (Nat.le_refl _) (Nat.le_refl _) (fun _ hh => ⟨_, hh, _, rfl, ?_, ?_⟩)
    · first | assumption | omega
    · refine ⟨t6, Or.inr ⟨rfl, ?_, hA6⟩⟩
      first
        | exact b6
        | (rw [l6]; exact (rdW_len hT.2.1 (by omega)).symm)
  · refine z_aload_n (pc' := 13) X dX8_errorPosition_12 rfl rfl ?_
    have hv13 := hR6 0 2
    refine z_mget (pc' := 16) X 9 rfl (by decide) q2072 rfl dX8_errorPosition_13 rfl ?_
    refine z_goto (tgt := 23) X dX8_errorPosition_16 (by decide) ?_
    refine z_ireturn X dX8_errorPosition_23 (Nat.le_refl _) (Nat.le_refl _) (fun _ hh => ⟨_, hh, _, rfl, ?_, ?_⟩)
    · first | assumption | omega
    · refine ⟨t6, Or.inr ⟨rfl, ?_, hA6⟩⟩
      first
        | exact b6
        | (rw [l6]; exact (rdW_len hT.2.1 (by omega)).symm)
end M23

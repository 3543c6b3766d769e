/-! THE MILL's STATE as lists; the model's beating, packing, a night -/
section M6
/-- the mill: numbers by their places in the model's row, bales, piles, reams -/
abbrev St : Type := (Int → Int) × List Bl × List Pl × List Bl
def scI (j : Int) : Prop := (0 ≤ j ∧ j < 21 ∧ j ≠ 4 ∧ j ≠ 5 ∧ j ≠ 6) ∨ (117 ≤ j ∧ j < 141)
def sRep (N : Int → Int) (S : St) : Prop := (∀ j, scI j → N j = S.1 j) ∧ bRep N S.2.1 ∧ pRep N S.2.2.1 ∧ rRep N S.2.2.2
def okQ (b : Bl) : Prop := (0 ≤ b.1 ∧ b.1 ≤ 9) ∧ (0 ≤ b.2.1 ∧ b.2.1 ≤ 2) ∧ (0 ≤ b.2.2.1 ∧ b.2.2.1 ≤ 2) ∧ (0 ≤ b.2.2.2 ∧ b.2.2.2 ≤ 20)
def okPd (D : Int) (b : Pl) : Prop := (0 ≤ b.1 ∧ b.1 ≤ 9) ∧ (0 ≤ b.2.1 ∧ b.2.1 ≤ 2) ∧ (0 ≤ b.2.2.1 ∧ b.2.2.1 ≤ 2) ∧ (0 ≤ b.2.2.2.1 ∧ b.2.2.2.1 ≤ 480) ∧ (0 ≤ b.2.2.2.2 ∧ b.2.2.2.2 ≤ D)
/-- the numbers' bounds: day at most D, purse at most P, sent at most Q -/
def okSc (D P Q : Int) (f : Int → Int) : Prop :=
  ((0 ≤ f 0 ∧ f 0 ≤ D) ∧ (0 ≤ f 1 ∧ f 1 ≤ P) ∧ (0 ≤ f 2 ∧ f 2 ≤ 3) ∧ (0 ≤ f 3 ∧ f 3 ≤ 99) ∧ (0 ≤ f 7 ∧ f 7 ≤ Q)) ∧
  ((0 ≤ f 8 ∧ f 8 ≤ 2000000) ∧ (0 ≤ f 9 ∧ f 9 ≤ 2000000) ∧ (0 ≤ f 10 ∧ f 10 ≤ 2000000) ∧ (0 ≤ f 11 ∧ f 11 ≤ 2000000) ∧ 1 ≤ f 8 + f 9 + f 10 + f 11 ∧ (0 ≤ f 12 ∧ f 12 ≤ 4)) ∧
  (∀ c, 0 ≤ c → c < 4 → (0 ≤ f (13 + 2 * c) ∧ f (13 + 2 * c) ≤ 300) ∧ (-1 ≤ f (13 + 2 * c + 1) ∧ f (13 + 2 * c + 1) ≤ 1100)) ∧
  (∀ v, 0 ≤ v → v < 3 → (0 ≤ f (117 + 3 * v) ∧ f (117 + 3 * v) ≤ 8000) ∧ (0 ≤ f (117 + 3 * v + 1) ∧ f (117 + 3 * v + 1) ≤ 48) ∧ (0 ≤ f (117 + 3 * v + 2) ∧ f (117 + 3 * v + 2) ≤ 60)) ∧
  (∀ v, 0 ≤ v → v < 5 → (0 ≤ f (126 + 3 * v) ∧ f (126 + 3 * v) ≤ 9) ∧ (0 ≤ f (126 + 3 * v + 1) ∧ f (126 + 3 * v + 1) ≤ 2000) ∧ (0 ≤ f (126 + 3 * v + 2) ∧ f (126 + 3 * v + 2) ≤ 99))
def okS (D P Q : Int) (S : St) : Prop := okSc D P Q S.1 ∧ (∀ b ∈ S.2.1, okB b) ∧ (∀ b ∈ S.2.2.1, okPd D b) ∧ (∀ b ∈ S.2.2.2, okQ b)
theorem sc_of {N : Int → Int} {S : St} (h : sRep N S) {j : Int} (hj : scI j) : N j = S.1 j := h.1 j hj
theorem okN.of {N : Int → Int} {S : St} {D P Q : Int} (hD : D ≤ 2000) (hP : P ≤ 1000000) (hQ : Q ≤ 10000000) (h : sRep N S) (hk : okS D P Q S) : okN N := by
  obtain ⟨hs, hb, hp, hr⟩ := h
  obtain ⟨⟨k1, k2, k3, k4, k5⟩, kb, kp, kq⟩ := hk
  have e : ∀ j, scI j → S.1 j = N j := fun j hj => (hs j hj).symm
  refine ⟨⟨⟨by rw [hb.1]; omega, by rw [hb.1]; have := hb.2.1; omega⟩, ⟨by rw [hp.1]; omega, by rw [hp.1]; have := hp.2.1; omega⟩, ⟨by rw [hr.1]; omega, by rw [hr.1]; have := hr.2.1; omega⟩⟩, ?_, ?_, fun c a b => ?_, fun p a b => ?_, fun v a b => ?_, fun v a b => ?_, fun p a b => ?_, fun p a b => ?_⟩
  · rw [e 0 (by unfold scI; omega), e 1 (by unfold scI; omega), e 2 (by unfold scI; omega), e 3 (by unfold scI; omega), e 7 (by unfold scI; omega)] at k1
    omega
  · rw [e 8 (by unfold scI; omega), e 9 (by unfold scI; omega), e 10 (by unfold scI; omega), e 11 (by unfold scI; omega), e 12 (by unfold scI; omega)] at k2
    exact k2
  · have q := k3 c a b
    rw [e _ (by unfold scI; omega), e _ (by unfold scI; omega)] at q
    omega
  · have hl : p.toNat < S.2.1.length := by have := hb.1; omega
    obtain ⟨e0, e1, e2, e3⟩ := hb.2.2 p.toNat _ (List.getElem?_eq_getElem hl)
    rw [show ((p.toNat : Nat) : Int) = p by omega] at e0 e1 e2 e3
    rw [e0, e1, e2, e3]
    exact kb _ (List.getElem_mem hl)
  · have q := k4 v a b
    rw [e _ (by unfold scI; omega), e _ (by unfold scI; omega), e _ (by unfold scI; omega)] at q
    exact q
  · have q := k5 v a b
    rw [e _ (by unfold scI; omega), e _ (by unfold scI; omega), e _ (by unfold scI; omega)] at q
    exact q
  · have hl : p.toNat < S.2.2.1.length := by have := hp.1; omega
    obtain ⟨e0, e1, e2, e3, e4⟩ := hp.2.2 p.toNat _ (List.getElem?_eq_getElem hl)
    rw [show ((p.toNat : Nat) : Int) = p by omega] at e0 e1 e2 e3 e4
    rw [e0, e1, e2, e3, e4]
    obtain ⟨q0, q1, q2, q3, q4⟩ := kp _ (List.getElem_mem hl)
    exact ⟨q0, q1, q2, q3, q4.1, Int.le_trans q4.2 hD⟩
  · have hl : p.toNat < S.2.2.2.length := by have := hr.1; omega
    obtain ⟨e0, e1, e2, e3⟩ := hr.2.2 p.toNat _ (List.getElem?_eq_getElem hl)
    rw [show ((p.toNat : Nat) : Int) = p by omega] at e0 e1 e2 e3
    rw [e0, e1, e2, e3]
    exact kq _ (List.getElem_mem hl)
def dayP (q : Pl) : Pl := (q.1, q.2.1, q.2.2.1, q.2.2.2.1, q.2.2.2.2 + 1)
def nStove (S : St) : Int := if S.1 1 < 4 * S.1 2 then 0 else S.1 2
def nWet (S : St) : List Bl := (S.2.1.map (dampB (nStove S))).map wetB
def nSpr (S : St) : List Bl := sprL (moG (nWet S)) 0 (nWet S)
def nNew (S : St) : Int := wetN (S.2.1.map (dampB (nStove S))) + sprN (moG (nWet S)) 0 (nWet S)
def nLost (S : St) : Int := rotN (nSpr S)
def nightS (S : St) : St := (iup (iup (iup S.1 0 (S.1 0 + 1)) 2 (nStove S)) 1 (S.1 1 - 4 * nStove S), rotL (nSpr S), S.2.2.1.map dayP, S.2.2.2)
theorem sprL_ok {G : Int → Int} : ∀ (bs : List Bl) (i : Int), (∀ b ∈ bs, okB b) → ∀ b ∈ sprL G i bs, okB b
  | [], _, _, b, h => nomatch h
  | c :: t, i, hk, b, h => by
    rw [sprL_c] at h
    rcases List.mem_cons.mp h with e | e
    · rw [e]; exact sprB_ok (hk c List.mem_cons_self)
    · exact sprL_ok t (i + 1) (fun q hq => hk q (List.mem_cons_of_mem _ hq)) b e
theorem rotL_ok : ∀ (bs : List Bl), (∀ b ∈ bs, okB b) → ∀ b ∈ rotL bs, okB b
  | [], _, b, h => nomatch h
  | c :: t, hk, b, h => by
    have ih := rotL_ok t (fun q hq => hk q (List.mem_cons_of_mem _ hq))
    obtain ⟨k0, k1, k2, k3⟩ := hk c List.mem_cons_self
    rw [rotL_c] at h
    split at h
    · exact ih b h
    · rcases List.mem_cons.mp h with e | e
      · rw [e]
        refine ⟨k0, ?_, k2, k3⟩
        show 0 ≤ c.2.1 - rotX c ∧ c.2.1 - rotX c ≤ 300
        unfold rotX
        split <;> omega
      · exact ih b e
theorem nWet_ok {S : St} (hs : 0 ≤ S.1 2) (h : ∀ b ∈ S.2.1, okB b) : (∀ b ∈ S.2.1.map (dampB (nStove S)), okB b) ∧ (∀ b ∈ nWet S, okB b) ∧ ∀ b ∈ nSpr S, okB b := by
  have h0 : 0 ≤ nStove S := by unfold nStove; split <;> omega
  have h1 : ∀ b ∈ S.2.1.map (dampB (nStove S)), okB b := fun b hb => by obtain ⟨a, ha, rfl⟩ := List.mem_map.mp hb; exact dampB_ok h0 (h a ha)
  have h2 : ∀ b ∈ nWet S, okB b := fun b hb => by obtain ⟨a, ha, rfl⟩ := List.mem_map.mp hb; exact wetB_ok (h1 a ha)
  exact ⟨h1, h2, sprL_ok _ _ h2⟩
theorem nLost_b {S : St} (hs : 0 ≤ S.1 2) (h : ∀ b ∈ S.2.1, okB b) (hl : S.2.1.length ≤ 24) : 0 ≤ nLost S ∧ nLost S ≤ 7200 := by
  have h1 := rotN_b (nWet_ok hs h).2.2
  have h2 : (nSpr S).length = S.2.1.length := by
    unfold nSpr nWet
    have : ∀ (G : Int → Int) (bs : List Bl) (i : Int), (sprL G i bs).length = bs.length := by
      intro G bs
      induction bs with
      | nil => intro i; rfl
      | cons b t ih => intro i; rw [sprL_c, List.length_cons, List.length_cons, ih]
    rw [this, List.length_map, List.length_map]
  rw [h2] at h1
  unfold nLost
  omega
theorem nightS_ok {D P Q : Int} {S : St} (h : okS D P Q S) : okS (D + 1) P Q (nightS S) := by
  obtain ⟨⟨k1, k2, k3, k4, k5⟩, kb, kp, kq⟩ := h
  have hst : 0 ≤ nStove S ∧ nStove S ≤ 3 ∧ 4 * nStove S ≤ S.1 1 := by unfold nStove; split <;> omega
  have e : ∀ j, j ≠ 0 → j ≠ 1 → j ≠ 2 → (nightS S).1 j = S.1 j := fun j a b c => by
    show iup (iup (iup S.1 0 _) 2 _) 1 _ j = _
    rw [iup_n b, iup_n c, iup_n a]
  refine ⟨⟨?_, ?_, fun c a b => ?_, fun v a b => ?_, fun v a b => ?_⟩, rotL_ok _ (nWet_ok (by omega) kb).2.2, fun b hb => ?_, kq⟩
  · rw [e 3 (by decide) (by decide) (by decide), e 7 (by decide) (by decide) (by decide)]
    rw [show (nightS S).1 0 = S.1 0 + 1 from rfl, show (nightS S).1 1 = S.1 1 - 4 * nStove S from rfl, show (nightS S).1 2 = nStove S from rfl]
    omega
  · rw [e 8 (by decide) (by decide) (by decide), e 9 (by decide) (by decide) (by decide), e 10 (by decide) (by decide) (by decide), e 11 (by decide) (by decide) (by decide), e 12 (by decide) (by decide) (by decide)]
    exact k2
  · rw [e _ (by omega) (by omega) (by omega), e _ (by omega) (by omega) (by omega)]; exact k3 c a b
  · rw [e _ (by omega) (by omega) (by omega), e _ (by omega) (by omega) (by omega), e _ (by omega) (by omega) (by omega)]; exact k4 v a b
  · rw [e _ (by omega) (by omega) (by omega), e _ (by omega) (by omega) (by omega), e _ (by omega) (by omega) (by omega)]; exact k5 v a b
  · obtain ⟨a, ha, rfl⟩ := List.mem_map.mp hb
    obtain ⟨q0, q1, q2, q3, q4⟩ := kp a ha
    exact ⟨q0, q1, q2, q3, by show 0 ≤ a.2.2.2.2 + 1 ∧ a.2.2.2.2 + 1 ≤ D + 1; omega⟩
theorem pRep.len {N : Int → Int} {bs : List Pl} (h : pRep N bs) : N 5 = bs.length ∧ bs.length ≤ 12 := ⟨h.1, h.2.1⟩
theorem Y_X8_passesDay : zYV yX8_passesDay cX8_passesDay 3 (some .int) 0 := ⟨⟨q2380, qs83, q132, q2381⟩, by decide +kernel, by decide⟩
set_option maxRecDepth 100000 in
theorem c_X8_passesDay (l : Launch) (g : zG) (ma : Nat → Nat) (M : MM) (S : St) (D0 P Q : Int) (hS : sRep (M 1) S) (hk : okS D0 P Q S) (hD : D0 ≤ 1990) (hP : P ≤ 1000000) : mInt l yX8_passesDay cX8_passesDay 3 (some .int) 5 [vR (ma 0)] g ma M (fun r M' => r = nLost S ∧ sRep (M' 1) (nightS S) ∧ M' 0 4 = nNew S ∧ (∀ j, j ≠ 4 → M' 0 j = M 0 j) ∧ ∀ q, q ≠ 0 → q ≠ 1 → q ≠ 6 → M' q = M q) := by
  refine mInt.mk (L0 := [some (vR (ma 0)), none, none]) (by decide) rfl (Nat.le_of_ble_eq_true rfl) rfl (fun C h hg hl hR X => ?_)
  subst hg hl
  obtain ⟨hs, hb, hp, hr⟩ := id hS
  obtain ⟨⟨k1, -, -, -, -⟩, kb, kp, -⟩ := id hk
  have hw := nWet_ok (S := S) (by omega) kb
  have hL := nLost_b (S := S) (by omega) kb hb.2.1
  have g0 := hs 0 (by unfold scI; omega)
  have g1 := hs 1 (by unfold scI; omega)
  have g2 := hs 2 (by unfold scI; omega)
  have hlp := hp.len
  refine z_aload_n (pc' := 1) X dX8_passesDay_0 rfl rfl ?_
  refine z_mget (pc' := 4) X 0 rfl (by decide) q2063 rfl dX8_passesDay_1 rfl ?_
  refine z_iconst (pc' := 5) X dX8_passesDay_4 rfl ?_
  refine z_dup2 (pc' := 6) X rfl rfl dX8_passesDay_5 rfl ?_
  refine z_mld (pc' := 7) X (r := 1) (by decide) (show 0 ≤ _ ∧ _ < (321 : Int) by omega) dX8_passesDay_6 rfl (fun hv6 => ?_)
  refine z_iconst (pc' := 8) X dX8_passesDay_7 rfl ?_
  refine z_iadd (pc' := 9) X dX8_passesDay_8 rfl ?_
  refine z_mst (pc' := 10) X (r := 1) (by decide) (show 0 ≤ _ ∧ _ < (321 : Int) by omega) (by first | assumption | omega) dX8_passesDay_9 rfl (fun hR9 => ?_)
  refine z_aload_n (pc' := 11) X dX8_passesDay_10 rfl rfl ?_
  refine z_V_void0 (pc' := 14) X rfl Y_X8_heats q2382 dX8_passesDay_11 rfl (by decide) (Nat.le_refl _) (Nat.le_refl _) (Nat.le_of_ble_eq_true rfl) (c_X8_heats _ _ _ _ S.2.1 (hb.same (by rw [mset_k (by decide)]) (fun j _ _ => by rw [mset_k (by omega)])) kb (by rw [mset_k (by decide)]; omega) (by rw [mset_k (by decide)]; omega)) (fun M11 hp11 hR11 => ?_)
  obtain ⟨a1, a2, a3, a4, a5⟩ := hp11
  have hst : hStove (mset M 1 0 (M 1 0 + 1)) = nStove S := by unfold hStove nStove; rw [mset_k (by decide), mset_k (by decide), g1, g2]
  rw [hst] at a2 a3 a4
  have h16 := a4
  refine z_aload_n (pc' := 15) X dX8_passesDay_14 rfl rfl ?_
  refine z_aload_n (pc' := 16) X dX8_passesDay_15 rfl rfl ?_
  refine z_V_int0 (pc' := 19) X rfl Y_X8_spreads q2386 dX8_passesDay_16 rfl (by decide) (Nat.le_refl _) (Nat.le_refl _) (Nat.le_of_ble_eq_true rfl) (c_X8_spreads _ _ _ _ (S.2.1.map (dampB (nStove S))) h16 hw.1) (fun r16 M16 hr16 hp16 hR16 => ?_)
  obtain ⟨b1, b2, b3, b4⟩ := hp16
  have hb1 : r16 = nNew S := b1
  subst hb1
  clear b1
  have hwn := wetN_b (S.2.1.map (dampB (nStove S)))
  have hsn := sprN_b (G := moG (nWet S)) (nWet S) 0
  refine z_mput (pc' := 22) X 11 4 rfl (by decide) q2074 rfl rfl rfl (by first | assumption | omega) dX8_passesDay_19 rfl (fun hR19 => ?_)
  have h23 : bRep (mset M16 0 4 (nNew S) 1) (nSpr S) := by rw [mset_r (by decide)]; exact b2
  refine z_aload_n (pc' := 23) X dX8_passesDay_22 rfl rfl ?_
  refine z_V_int0 (pc' := 26) X rfl Y_X8_rots q2394 dX8_passesDay_23 rfl (by decide) (Nat.le_refl _) (Nat.le_refl _) (Nat.le_of_ble_eq_true rfl) (c_X8_rots _ _ _ _ (nSpr S) h23 hw.2.2) (fun r23 M23 hr23 hp23 hR23 => ?_)
  obtain ⟨d1, d2, d3, d4⟩ := hp23
  have hd1 : r23 = nLost S := d1
  subst hd1
  clear d1
  have f1 : ∀ j, (j < 21 ∨ 117 ≤ j) → j ≠ 4 → M23 1 j = M11 1 j := fun j x y => by rw [d3 j x y, mset_r (by decide), b3 j x y]
  have f2 : ∀ j, j ≠ 0 → j ≠ 1 → j ≠ 2 → (j < 21 ∨ 117 ≤ j) → j ≠ 4 → M23 1 j = M 1 j := fun j w x y z u => by rw [f1 j z u, a1 j x y z u, mset_k w]
  have hp23 : pRep (M23 1) S.2.2.1 := hp.same (f2 5 (by decide) (by decide) (by decide) (by omega) (by decide)) (fun j x y => f2 j (by omega) (by omega) (by omega) (by omega) (by omega))
  refine z_istore_n (pc' := 27) X dX8_passesDay_26 rfl (by decide) rfl ?_
  dsimp only [List.set]
  refine z_iconst (pc' := 28) X dX8_passesDay_27 rfl ?_
  refine z_istore_n (pc' := 29) X dX8_passesDay_28 rfl (by decide) rfl ?_
  dsimp only [List.set]
  have loop29 : ∀ (N : Nat) (p : Int) (Mx : MM) (E T : List Pl), (p = (E.length : Int)) → (pRep (Mx 1) (E ++ T)) → (∀ b ∈ T, okPd D0 b) → (E ++ T.map dayP = S.2.2.1.map dayP) → (E.length + T.length ≤ 12) → (pO (M23 1) (Mx 1)) → (∀ q, q ≠ 1 → Mx q = M23 q) → T.length < N → ZP C 3 (mF ma h (Mx)) 0 0 [some (vR (ma 0)), some (vI (nLost S)), some (vI p)] 29 [] := by
    intro N
    induction N with
    | zero => intro p Mx E T hp hq hok hf hl ho hrr hN; exact absurd hN (Nat.not_lt_zero _)
    | succ N ih29 =>
      intro p Mx E T hp hq hok hf hl ho hrr hN
      refine ZP.fact (P := mR (Mx)) (fun _ h => h.1.2.2.2) (fun hR29 => ?_)
      subst hp
      refine z_iload_n (pc' := 30) X dX8_passesDay_29 rfl rfl ?_
      refine z_aload_n (pc' := 31) X dX8_passesDay_30 rfl rfl ?_
      refine z_mget (pc' := 34) X 0 rfl (by decide) q2063 rfl dX8_passesDay_31 rfl ?_
      refine z_iconst (pc' := 35) X dX8_passesDay_34 rfl ?_
      refine z_mld (pc' := 36) X (r := 1) (by decide) (show 0 ≤ _ ∧ _ < (321 : Int) by omega) dX8_passesDay_35 rfl (fun hv35 => ?_)
      refine z_icmp_ge (tgt := 63) (pc' := 39) X (by first | assumption | omega) (by first | assumption | omega) dX8_passesDay_36 rfl (by decide) (fun c36 => ?_) (fun c36 => ?_)
      · obtain rfl := hq.nil rfl c36
        refine z_iload_n (pc' := 64) X dX8_passesDay_63 rfl rfl ?_
        refine z_ireturn X dX8_passesDay_64 (Nat.le_refl _) (Nat.le_refl _) (fun _ hh => ⟨_, hh, _, rfl, ?_, ?_⟩)
        · first | assumption | omega
        · rw [List.map_nil, List.append_nil] at hf; rw [List.append_nil] at hq
          refine ⟨rfl, ⟨fun j hj => ?_, ?_, ?_, ?_⟩, ?_, fun j hj => ?_, fun q x y z => ?_⟩
          · have hj2 : (j < 141 ∨ 201 ≤ j) ∧ (j < 21 ∨ 117 ≤ j) ∧ j ≠ 4 ∧ j ≠ 5 := by unfold scI at hj; omega
            rw [ho j hj2.1 hj2.2.2.2]
            show _ = iup (iup (iup S.1 0 _) 2 _) 1 _ j
            by_cases j1 : j = 1
            · subst j1; rw [iup_s, f1 1 (by omega) (by decide), a3, mset_k (by decide), g1]
            · rw [iup_n j1]
              by_cases j2 : j = 2
              · subst j2; rw [iup_s, f1 2 (by omega) (by decide), a2]
              · rw [iup_n j2]
                by_cases j0 : j = 0
                · subst j0; rw [iup_s, f1 0 (by omega) (by decide), a1 0 (by decide) (by decide) (by omega) (by decide), mset_s, g0]
                · rw [iup_n j0, f2 j j0 j1 j2 hj2.2.1 hj2.2.2.1]; exact hs j hj
          · exact d2.same (ho 4 (by omega) (by decide)) (fun j x y => ho j (by omega) (by omega))
          · rw [show (nightS S).2.2.1 = S.2.2.1.map dayP from rfl, ← hf]; exact hq
          · exact hr.same ((ho 6 (by omega) (by decide)).trans (f2 6 (by decide) (by decide) (by decide) (by omega) (by decide))) (fun j x y => (ho j (by omega) (by omega)).trans (f2 j (by omega) (by omega) (by omega) (by omega) (by omega)))
          · rw [hrr 0 (by decide), d4 0 (by decide), mset_s]
          · rw [hrr 0 (by decide), d4 0 (by decide), mset_k hj, b4 0 (by decide) (by decide), a5 0 (by decide), mset_r (by decide)]
          · rw [hrr q y, d4 q y, mset_r x, b4 q y z, a5 q y, mset_r y]
      · obtain ⟨b, t, rfl⟩ := hq.cons rfl c36
        obtain ⟨⟨e0, e1, e2, e3, e4⟩, hd1, hd2, hd3⟩ := hq.hd
        obtain ⟨q0, q1, q2, q3, q4⟩ := hok b List.mem_cons_self
        refine z_aload_n (pc' := 40) X dX8_passesDay_39 rfl rfl ?_
        refine z_mget (pc' := 43) X 0 rfl (by decide) q2063 rfl dX8_passesDay_40 rfl ?_
        refine z_sipush (pc' := 46) X dX8_passesDay_43 rfl (by decide) ?_
        refine z_iconst (pc' := 47) X dX8_passesDay_46 rfl ?_
        refine z_iload_n (pc' := 48) X dX8_passesDay_47 rfl rfl ?_
        refine z_imul (pc' := 49) X dX8_passesDay_48 rfl ?_
        refine z_iadd (pc' := 50) X dX8_passesDay_49 rfl ?_
        refine z_iconst (pc' := 51) X dX8_passesDay_50 rfl ?_
        refine z_iadd (pc' := 52) X dX8_passesDay_51 rfl ?_
        refine z_dup2 (pc' := 53) X rfl rfl dX8_passesDay_52 rfl ?_
        refine z_mld (pc' := 54) X (r := 1) (by decide) (show 0 ≤ _ ∧ _ < (321 : Int) by omega) dX8_passesDay_53 rfl (fun hv53 => ?_)
        have e53 : Mx 1 (141 + 5 * (E.length : Int) + 4) = b.2.2.2.2 := e4
        rw [e53]
        refine z_iconst (pc' := 55) X dX8_passesDay_54 rfl ?_
        refine z_iadd (pc' := 56) X dX8_passesDay_55 rfl ?_
        refine z_mst (pc' := 57) X (r := 1) (by decide) (show 0 ≤ _ ∧ _ < (321 : Int) by omega) (by first | assumption | omega) dX8_passesDay_56 rfl (fun hR56 => ?_)
        have hq2 := hq.days (z := b.2.2.2.2 + 1)
        refine z_iinc (pc' := 60) X dX8_passesDay_57 rfl (by decide) rfl rfl ?_
        dsimp only [List.set]
        refine z_goto (tgt := 29) X dX8_passesDay_60 (by decide) ?_
        refine ZP.wk (L' := [some (vR (ma 0)), some (vI (nLost S)), some (vI _)]) (And.intro rfl (And.intro rfl (And.intro rfl (trivial)))) ?_
        exact ih29 _ _ (E ++ [dayP b]) t (by rw [List.length_append]; rfl) (by rw [List.append_assoc]; exact hq2.1) (by exact fun q hq => hok q (List.mem_cons_of_mem _ hq)) (by rw [List.append_assoc, ← hf]; rfl) (by rw [List.length_cons] at hl; rw [List.length_append]; show E.length + 1 + _ ≤ 12; omega) (by exact ho.tr hq2.2) (by exact fun q hq => (mset_r hq).trans (hrr q hq)) (by rw [List.length_cons] at hN; omega)
  refine ZP.wk (L' := [some (vR (ma 0)), some (vI (nLost S)), some (vI _)]) (And.intro rfl (And.intro rfl (And.intro rfl (trivial)))) ?_
  exact loop29 _ _ _ [] S.2.2.1 (by rfl) (by exact hp23) (by exact kp) (by rfl) (by rw [List.length_nil]; omega) (by exact pO.rf) (by exact fun _ _ => rfl) (Nat.lt_succ_self _)
end M6

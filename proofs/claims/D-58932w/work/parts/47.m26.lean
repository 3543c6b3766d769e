/-! THE MODEL: running a text -/
section M26
def gRun (A : Ab) : Int := if (rdW A.2.2.2).1 = 1 then 0 else 1
def runS (A : Ab) : Int × St := doA (rdW A.2.2.2).2.2 A.1
theorem rdA_01 {tx : List Int} (hl : tx.length ≤ 60) : ∀ (n : Nat) (p : Int), 0 ≤ p ∧ p ≤ tx.length → ((rdA tx n p).1 = 0 ∨ (rdA tx n p).1 = 1)
  | 0, _, _ => Or.inl rfl
  | n + 1, p, hp => by
    have b := prt_b hp hl
    rw [rdA_s]
    refine fld (fun x : Int × Int × List Wk => x.1 = 0 ∨ x.1 = 1) (fun _ => Or.inl rfl) fun h1 => fld (fun x : Int × Int × List Wk => x.1 = 0 ∨ x.1 = 1) (fun h2 => ?_) fun _ => bit_b
    have l := tS_lt (tx := tx) (p := (prt tx p).2.1) (by omega)
    exact rdA_01 hl n _ ⟨by omega, by omega⟩
theorem rdW_01 {tx : List Int} (hl : tx.length ≤ 60) : (rdW tx).1 = 0 ∨ (rdW tx).1 = 1 := rdA_01 hl 61 0 ⟨Int.le_refl 0, by omega⟩
theorem drop_at {α : Type} {l : List α} {k : Nat} {x : α} (h : l[k]? = some x) : l.drop k = x :: l.drop (k + 1) := by
  have hl := (List.getElem?_eq_some_iff.mp h)
  rw [← hl.2]
  exact (List.getElem_cons_drop (h := hl.1)).symm
theorem Y_X8_runText : zYV yX8_runText cX8_runText 2 (some .int) 0 := ⟨⟨q2658, q2659, q132, q2660⟩, by decide +kernel, by decide⟩
set_option maxRecDepth 100000 in
theorem c_X8_runText (l : Launch) (g : zG) (ma : Nat → Nat) (M : MM) (A : Ab) (P Q : Int) (hA : mRep M A) (hk : okA P Q A) (hP : P ≤ 900000) (hQ : Q ≤ 9000000) (hage : ageS A.1) : mInt l yX8_runText cX8_runText 2 (some .int) 10 [vR (ma 0)] g ma M (fun r M' => outP (gRun A) A (runS A).1 (svA A (runS A).2) r M') := by
  refine mInt.mk (L0 := [some (vR (ma 0)), none]) (by decide) rfl (Nat.le_of_ble_eq_true rfl) rfl (fun C h hg hl hR X => ?_)
  subst hg hl
  obtain ⟨hS, hN, hH, hT⟩ := id hA
  obtain ⟨hkS, -, -, -⟩ := id hk
  obtain ⟨⟨kc1, -, kc3, kc4, kc5⟩, kb, kp, kq⟩ := id hkS
  have hI := hk.I hA hP hQ
  have hn := mI_n hI
  have hh0 : 0 ≤ M 0 0 ∧ M 0 0 ≤ 5 := ⟨by rw [hH.1]; omega, by rw [hH.1]; have := hH.2.1; omega⟩
  have s0 := sc_at hA (j := 0) (by unfold scI; omega)
  have s1 := sc_at hA (j := 1) (by unfold scI; omega)
  have hA0 : mRep (mset M 0 3 0) A := hA.num (by decide)
  have hS0 := hA0.1
  have hI0 : mI (mset M 0 3 0) := hk.I hA0 hP hQ
  have q4 := hS.2.1.1
  have q5 := hS.2.2.1.1
  have q6 := hS.2.2.2.1
  have p4 := hS0.2.1.1
  have p5 := hS0.2.2.1.1
  have p6 := hS0.2.2.2.1
  have h01 := rdW_01 (tx := A.2.2.2) hT.2.1
  refine z_aload_n (pc' := 1) X dX8_runText_0 rfl rfl ?_
  refine z_aload_n (pc' := 2) X dX8_runText_1 rfl rfl ?_
  refine z_V_int0 (pc' := 5) X rfl Y_X8_isWhole q2602 dX8_runText_2 rfl (by decide) (Nat.le_refl _) (Nat.le_refl _) (Nat.le_of_ble_eq_true rfl) (c_X8_isWhole _ _ _ _ A.2.2.2 hT hk.2.2.2) (fun r2 M2 hr2 hp2 hR2 => ?_)
  obtain ⟨a2, b2, c2, d2⟩ := hp2
  have hA2x : mRep M2 A := hA.gen (S' := A.1) (by rw [c2.2 1 (by decide) (by decide) (by decide)]; exact hS) ⟨c2.1 0 (by decide) (by decide), c2.1 1 (by decide) (by decide), c2.1 2 (by decide) (by decide)⟩ (c2.2 2 (by decide) (by decide) (by decide)) (c2.2 3 (by decide) (by decide) (by decide)) (c2.2 7 (by decide) (by decide) (by decide))
  have hh2 : 0 ≤ M2 0 0 ∧ M2 0 0 ≤ 5 := by rw [c2.1 0 (by decide) (by decide)]; exact hh0
  refine z_if_eq (tgt := 12) (pc' := 8) X (by first | assumption | omega) dX8_runText_5 rfl (by decide) (fun c5 => ?_) (fun c5 => ?_)
  · refine z_iconst (pc' := 13) X dX8_runText_12 rfl ?_
    refine z_mput (pc' := 16) X 10 3 rfl (by decide) q2073 rfl rfl rfl (by first | assumption | omega) dX8_runText_13 rfl (fun hR13 => ?_)
    refine z_aload_n (pc' := 17) X dX8_runText_16 rfl rfl ?_
    have hv17 := hR13 0 3
    refine z_mget (pc' := 20) X 10 rfl (by decide) q2073 rfl dX8_runText_17 rfl ?_
    rw [mset_s]
    rw [mset_s] at hv17
    refine z_if_le (tgt := 25) (pc' := 23) X (by first | assumption | omega) dX8_runText_20 rfl (by decide) (fun c20 => ?_) (fun c20 => ?_)
    · exact absurd c20 (by decide)
    · refine z_iconst (pc' := 24) X dX8_runText_23 rfl ?_
      refine z_ireturn X dX8_runText_24 (Nat.le_refl _) (Nat.le_refl _) (fun _ hh => ⟨_, hh, _, rfl, ?_, ?_⟩)
      · first | assumption | omega
      · have hg1 : gRun A = 1 := by unfold gRun; rw [if_neg (by omega)]
        rw [hg1]
        exact ⟨mset_s, Or.inl ⟨by decide, hA2x.num (by decide)⟩⟩
  · refine z_iconst (pc' := 9) X dX8_runText_8 rfl ?_
    refine z_goto (tgt := 13) X dX8_runText_9 (by decide) ?_
    refine z_mput (pc' := 16) X 10 3 rfl (by decide) q2073 rfl rfl rfl (by first | assumption | omega) dX8_runText_13 rfl (fun hR13 => ?_)
    refine z_aload_n (pc' := 17) X dX8_runText_16 rfl rfl ?_
    have hv17 := hR13 0 3
    refine z_mget (pc' := 20) X 10 rfl (by decide) q2073 rfl dX8_runText_17 rfl ?_
    rw [mset_s]
    rw [mset_s] at hv17
    refine z_if_le (tgt := 25) (pc' := 23) X (by first | assumption | omega) dX8_runText_20 rfl (by decide) (fun c20 => ?_) (fun c20 => ?_)
    · refine z_aload_n (pc' := 26) X dX8_runText_25 rfl rfl ?_
      refine z_V_void0 (pc' := 29) X rfl Y_X8_saves q2151 dX8_runText_26 rfl (by decide) (Nat.le_refl _) (Nat.le_refl _) (Nat.le_of_ble_eq_true rfl) (c_X8_saves _ _ _ _ (by rw [mset_k (by decide)]; exact hh2)) (fun M26 hp26 hR26 => ?_)
      have hg26 := mThr hp26
      have hA2 := (hA2x.num (k := 3) (by decide)).saved hp26
      have hS2 := hA2.1
      have hz1 : (rdW A.2.2.2).1 = 1 := by omega
      obtain ⟨w1, w2, w3, w4⟩ := d2 hz1
      have n26 : M26 0 6 = ((rdW A.2.2.2).2.2.length : Int) := (hp26.2.1 6 (by decide)).trans ((mset_k (by decide)).trans w1)
      have t26 : M26 8 = M2 8 := (hp26.1 8 (by decide) (by decide)).trans (mset_r (by decide))
      refine z_iconst (pc' := 30) X dX8_runText_29 rfl ?_
      refine z_istore_n (pc' := 31) X dX8_runText_30 rfl (by decide) rfl ?_
      dsimp only [List.set]
      have loop31 : ∀ (N : Nat) (k : Int) (Sx : St) (Mx : MM), (0 ≤ k ∧ k ≤ (rdW A.2.2.2).2.2.length) → (sRep (Mx 1) Sx) → (okG P Q Sx) → (doneF M26 Mx) → ((runS A).1 = k + (doA ((rdW A.2.2.2).2.2.drop k.toNat) Sx).1) → ((runS A).2 = (doA ((rdW A.2.2.2).2.2.drop k.toNat) Sx).2) → ((rdW A.2.2.2).2.2.length - k).toNat < N → ZP C 2 (mF ma h (Mx)) 0 0 [some (vR (ma 0)), some (vI k)] 31 [] := by
        intro N
        induction N with
        | zero => intro k Sx Mx hkk hSx hG hF hR1 hR2 hN; exact absurd hN (Nat.not_lt_zero _)
        | succ N ih31 =>
          intro k Sx Mx hkk hSx hG hF hR1 hR2 hN
          refine ZP.fact (P := mR (Mx)) (fun _ h => h.1.2.2.2) (fun hR31 => ?_)
          refine z_iload_n (pc' := 32) X dX8_runText_31 rfl rfl ?_
          refine z_aload_n (pc' := 33) X dX8_runText_32 rfl rfl ?_
          have hv33 := hR31 0 6
          refine z_mget (pc' := 36) X 14 rfl (by decide) q2077 rfl dX8_runText_33 rfl ?_
          have e33 : Mx 0 6 = ((rdW A.2.2.2).2.2.length : Int) := (hF.1 6 (by decide)).trans n26
          rw [e33]
          rw [e33] at hv33
          refine z_icmp_ge (tgt := 53) (pc' := 39) X (by first | assumption | omega) (by first | assumption | omega) dX8_runText_36 rfl (by decide) (fun c36 => ?_) (fun c36 => ?_)
          · refine z_iload_n (pc' := 54) X dX8_runText_53 rfl rfl ?_
            refine z_ireturn X dX8_runText_54 (Nat.le_refl _) (Nat.le_refl _) (fun _ hh => ⟨_, hh, _, rfl, ?_, ?_⟩)
            · first | assumption | omega
            · have hg0 : gRun A = 0 := by unfold gRun; rw [if_pos hz1]
              rw [hg0]
              have fin : ∀ M', sRep (M' 1) Sx → doneF M26 M' → mRep M' (svA A Sx) := fun M' h1 h2 => hA2.gen (S' := Sx) h1 ⟨h2.1 0 (by decide), h2.1 1 (by decide), h2.1 2 (by decide)⟩ (h2.2 2 (by decide) (by decide) (by decide) (by decide)) (h2.2 3 (by decide) (by decide) (by decide) (by decide)) (h2.2 7 (by decide) (by decide) (by decide) (by decide))
              rw [List.drop_of_length_le (by omega)] at hR1 hR2
              have e1 : (runS A).1 = k := hR1.trans (Int.add_zero k)
              have e2 : (runS A).2 = Sx := hR2
              rw [e1, e2]
              exact ⟨(hF.1 3 (by decide)).trans hg26, Or.inr ⟨rfl, rfl, fin _ hSx hF⟩⟩
          · obtain ⟨w, hat⟩ : ∃ w, (rdW A.2.2.2).2.2[k.toNat]? = some w := ⟨_, List.getElem?_eq_getElem (by omega)⟩
            have hww : okW w := w4 w (List.mem_of_getElem? hat)
            have htw : tellW (Mx 8) (6 * k) w := by
              have q := w2 k.toNat w hat
              rw [show ((k.toNat : Nat) : Int) = k by omega] at q
              rw [hF.2 8 (by decide) (by decide) (by decide) (by decide), t26]
              exact q
            refine z_aload_n (pc' := 40) X dX8_runText_39 rfl rfl ?_
            refine z_iload_n (pc' := 41) X dX8_runText_40 rfl rfl ?_
            refine z_V_int1 (pc' := 44) X rfl Y_X8_isDone q2661 dX8_runText_41 rfl (by decide) (Nat.le_refl _) (Nat.le_refl _) (Nat.le_of_ble_eq_true rfl) (c_X8_isDone _ _ _ _ k Sx w P Q (by omega) hSx hG htw hww hP hQ) (fun r41 M41 hr41 hp41 hR41 => ?_)
            obtain ⟨a41, b41, c41⟩ := hp41
            rw [drop_at hat, doA_c] at hR1 hR2
            refine z_if_eq (tgt := 53) (pc' := 47) X (by first | assumption | omega) dX8_runText_44 rfl (by decide) (fun c44 => ?_) (fun c44 => ?_)
            · refine z_iload_n (pc' := 54) X dX8_runText_53 rfl rfl ?_
              refine z_ireturn X dX8_runText_54 (Nat.le_refl _) (Nat.le_refl _) (fun _ hh => ⟨_, hh, _, rfl, ?_, ?_⟩)
              · first | assumption | omega
              · have hg0 : gRun A = 0 := by unfold gRun; rw [if_pos hz1]
                rw [hg0]
                have fin : ∀ M', sRep (M' 1) Sx → doneF M26 M' → mRep M' (svA A Sx) := fun M' h1 h2 => hA2.gen (S' := Sx) h1 ⟨h2.1 0 (by decide), h2.1 1 (by decide), h2.1 2 (by decide)⟩ (h2.2 2 (by decide) (by decide) (by decide) (by decide)) (h2.2 3 (by decide) (by decide) (by decide) (by decide)) (h2.2 7 (by decide) (by decide) (by decide) (by decide))
                have hd0 := (doW_0 (w := w) (S := Sx)).resolve_right (fun x => absurd (x.symm.trans (a41.symm.trans c44)) (by decide))
                rw [if_neg (by rw [hd0.1]; decide)] at hR1 hR2
                have e1 : (runS A).1 = k := hR1.trans (Int.add_zero k)
                have e2 : (runS A).2 = Sx := hR2
                rw [hd0.2] at b41
                rw [e1, e2]
                exact ⟨((hF.tr c41).1 3 (by decide)).trans hg26, Or.inr ⟨rfl, rfl, fin _ b41 (hF.tr c41)⟩⟩
            · refine z_iinc (pc' := 50) X dX8_runText_47 rfl (by decide) rfl rfl ?_
              dsimp only [List.set]
              refine z_goto (tgt := 31) X dX8_runText_50 (by decide) ?_
              have hd1 : (doW w Sx).1 = 1 := (doW_0 (w := w) (S := Sx)).resolve_left (fun x => c44 (a41.trans x.1))
              rw [if_pos hd1] at hR1 hR2
              refine ZP.wk (L' := [some (vR (ma 0)), some (vI _)]) (And.intro rfl (And.intro rfl (trivial))) ?_
              exact ih31 (k + 1) (doW w Sx).2 _ (by omega) (by exact b41) (by exact doW_ok hww hG) (by exact hF.tr c41) (by rw [hR1, show (k + 1).toNat = k.toNat + 1 by omega]; show k + ((doA _ _).1 + 1) = _; omega) (by rw [hR2, show (k + 1).toNat = k.toNat + 1 by omega]) (by omega)
      refine ZP.wk (L' := [some (vR (ma 0)), some (vI _)]) (And.intro rfl (And.intro rfl (trivial))) ?_
      exact loop31 _ 0 A.1 _ (by omega) (by exact hS2) (by exact ⟨hkS, hage⟩) (by exact doneF.rf) (by show _ = 0 + (doA ((rdW A.2.2.2).2.2.drop 0) A.1).1; rw [List.drop_zero]; unfold runS; omega) (by show _ = (doA ((rdW A.2.2.2).2.2.drop 0) A.1).2; rw [List.drop_zero]; rfl) (Nat.lt_succ_self _)
    · exact absurd c20 (by decide)
end M26

/-! THE MODEL: doing a text -/
section M25
/-- what a part done leaves -/
def doneF (M M' : MM) : Prop := (∀ j, j ≠ 4 → M' 0 j = M 0 j) ∧ ∀ q, q ≠ 0 → q ≠ 1 → q ≠ 5 → q ≠ 6 → M' q = M q
theorem doneF.rf {M : MM} : doneF M M := ⟨fun _ _ => rfl, fun _ _ _ _ _ => rfl⟩
theorem doneF.tr {M M1 M2 : MM} (h : doneF M M1) (h' : doneF M1 M2) : doneF M M2 := ⟨fun j x => (h'.1 j x).trans (h.1 j x), fun q a b c d => (h'.2 q a b c d).trans (h.2 q a b c d)⟩
theorem doneF.r1 {M M' : MM} (h : ∀ q, q ≠ 1 → M' q = M q) : doneF M M' := ⟨fun j _ => by rw [h 0 (by decide)], fun q _ b _ _ => h q b⟩
theorem sRep.row5 {M M' : MM} {S : St} (h : sRep (M 1) S) (hr : ∀ q, q ≠ 5 → M' q = M q) : sRep (M' 1) S := by rw [hr 1 (by decide)]; exact h
theorem rec_end {M : MM} {S : St} {w : Wk} {i : Int} (h : sRep (M 1) S) (hw : tellW (M 8) (6 * i) w) (e : w.1 = 61) : sRep (mcopy M 8 (6 * i + 1) 1 8 5 1) (recS w S) := by
  obtain ⟨hs, hb, hp, hr⟩ := h
  obtain ⟨-, t1, t2, t3, t4, t5⟩ := hw
  have t2 := t2 (by omega)
  have t3 := t3 (by omega)
  have t4 := t4 (by omega)
  have t5 := t5 (by omega)
  have o : ∀ j, (j < 8 ∨ 13 ≤ j) → mcopy M 8 (6 * i + 1) 1 8 5 1 j = M 1 j := fun j hj => mcopy_out (by omega)
  refine ⟨fun j hj => ?_, hb.same (o _ (by omega)) (fun j x y => o _ (by omega)), hp.same (o _ (by omega)) (fun j x y => o _ (by omega)), hr.same (o _ (by omega)) (fun j x y => o _ (by omega))⟩
  show _ = iup (iup (iup (iup (iup S.1 8 w.2.1) 9 w.2.2.1) 10 w.2.2.2.1) 11 w.2.2.2.2.1) 12 w.2.2.2.2.2 j
  by_cases h5 : j = 12
  · subst h5; rw [iup_s, mcopy_in (by decide), show 6 * i + 1 + (12 - 8) = 6 * i + 5 by omega]; exact t5
  rw [iup_n h5]
  by_cases h4 : j = 11
  · subst h4; rw [iup_s, mcopy_in (by decide), show 6 * i + 1 + (11 - 8) = 6 * i + 4 by omega]; exact t4
  rw [iup_n h4]
  by_cases h3 : j = 10
  · subst h3; rw [iup_s, mcopy_in (by decide), show 6 * i + 1 + (10 - 8) = 6 * i + 3 by omega]; exact t3
  rw [iup_n h3]
  by_cases h2 : j = 9
  · subst h2; rw [iup_s, mcopy_in (by decide), show 6 * i + 1 + (9 - 8) = 6 * i + 2 by omega]; exact t2
  rw [iup_n h2]
  by_cases h1 : j = 8
  · subst h1; rw [iup_s, mcopy_in (by decide), show 6 * i + 1 + (8 - 8) = 6 * i + 1 by omega]; exact t1
  rw [iup_n h1, o j (by omega)]
  exact hs j hj
theorem Y_X8_isDone : zYV yX8_isDone cX8_isDone 7 (some .boolean) 1 := ⟨⟨q2663, qs110, q132, q2664⟩, by decide +kernel, by decide⟩
set_option maxRecDepth 100000 in
theorem c_X8_isDone (l : Launch) (g : zG) (ma : Nat → Nat) (M : MM) (i : Int) (S : St) (w : Wk) (P Q : Int) (hi : 0 ≤ i ∧ i ≤ 30) (hS : sRep (M 1) S) (hG : okG P Q S) (hw : tellW (M 8) (6 * i) w) (hW : okW w) (hP : P ≤ 900000) (hQ : Q ≤ 9000000) : mInt l yX8_isDone cX8_isDone 7 (some .boolean) 8 [vR (ma 0), vI i] g ma M (fun r M' => r = (doW w S).1 ∧ sRep (M' 1) (doW w S).2 ∧ doneF M M') := by
  refine mInt.mk (L0 := [some (vR (ma 0)), some (vI i), none, none, none, none, none]) (by decide) rfl (Nat.le_of_ble_eq_true rfl) rfl (fun C h hg hl hR X => ?_)
  subst hg hl
  obtain ⟨hkS, hage⟩ := id hG
  obtain ⟨⟨kc1, -, kc3, kc4, kc5⟩, kb, kp, kq⟩ := id hkS
  have hI : mI M := okN.of (by decide : (999 : Int) ≤ 2000) (by omega) (by omega) hS hkS
  have hn := mI_n hI
  have hl4 := hS.2.1.1
  unfold okW at hW
  refine z_aload_n (pc' := 1) X dX8_isDone_0 rfl rfl ?_
  refine z_mget (pc' := 4) X 13 rfl (by decide) q2076 rfl dX8_isDone_1 rfl ?_
  refine z_bipush (pc' := 6) X dX8_isDone_4 rfl (by decide) ?_
  refine z_iload_n (pc' := 7) X dX8_isDone_6 rfl rfl ?_
  refine z_imul (pc' := 8) X dX8_isDone_7 rfl ?_
  refine z_iconst (pc' := 9) X dX8_isDone_8 rfl ?_
  refine z_iadd (pc' := 10) X dX8_isDone_9 rfl ?_
  refine z_mld (pc' := 11) X (r := 8) (by decide) (show 0 ≤ _ ∧ _ < (186 : Int) by omega) dX8_isDone_10 rfl (fun hv10 => ?_)
  rw [hw.2.1]
  rw [hw.2.1] at hv10
  refine z_istore_n (pc' := 12) X dX8_isDone_11 rfl (by decide) rfl ?_
  dsimp only [List.set]
  refine z_aload_n (pc' := 13) X dX8_isDone_12 rfl rfl ?_
  refine z_mget (pc' := 16) X 13 rfl (by decide) q2076 rfl dX8_isDone_13 rfl ?_
  refine z_bipush (pc' := 18) X dX8_isDone_16 rfl (by decide) ?_
  refine z_iload_n (pc' := 19) X dX8_isDone_18 rfl rfl ?_
  refine z_imul (pc' := 20) X dX8_isDone_19 rfl ?_
  refine z_iconst (pc' := 21) X dX8_isDone_20 rfl ?_
  refine z_iadd (pc' := 22) X dX8_isDone_21 rfl ?_
  refine z_mld (pc' := 23) X (r := 8) (by decide) (show 0 ≤ _ ∧ _ < (186 : Int) by omega) dX8_isDone_22 rfl (fun hv22 => ?_)
  refine z_istore_n (pc' := 24) X dX8_isDone_23 rfl (by decide) rfl ?_
  dsimp only [List.set]
  refine z_aload_n (pc' := 25) X dX8_isDone_24 rfl rfl ?_
  refine z_mget (pc' := 28) X 13 rfl (by decide) q2076 rfl dX8_isDone_25 rfl ?_
  refine z_bipush (pc' := 30) X dX8_isDone_28 rfl (by decide) ?_
  refine z_iload_n (pc' := 31) X dX8_isDone_30 rfl rfl ?_
  refine z_imul (pc' := 32) X dX8_isDone_31 rfl ?_
  refine z_iconst (pc' := 33) X dX8_isDone_32 rfl ?_
  refine z_iadd (pc' := 34) X dX8_isDone_33 rfl ?_
  refine z_mld (pc' := 35) X (r := 8) (by decide) (show 0 ≤ _ ∧ _ < (186 : Int) by omega) dX8_isDone_34 rfl (fun hv34 => ?_)
  refine z_istore (pc' := 37) X dX8_isDone_35 rfl (by decide) rfl ?_
  dsimp only [List.set]
  refine z_aload_n (pc' := 38) X dX8_isDone_37 rfl rfl ?_
  refine z_mget (pc' := 41) X 13 rfl (by decide) q2076 rfl dX8_isDone_38 rfl ?_
  refine z_bipush (pc' := 43) X dX8_isDone_41 rfl (by decide) ?_
  refine z_iload_n (pc' := 44) X dX8_isDone_43 rfl rfl ?_
  refine z_imul (pc' := 45) X dX8_isDone_44 rfl ?_
  refine z_iconst (pc' := 46) X dX8_isDone_45 rfl ?_
  refine z_iadd (pc' := 47) X dX8_isDone_46 rfl ?_
  refine z_mld (pc' := 48) X (r := 8) (by decide) (show 0 ≤ _ ∧ _ < (186 : Int) by omega) dX8_isDone_47 rfl (fun hv47 => ?_)
  refine z_istore (pc' := 50) X dX8_isDone_48 rfl (by decide) rfl ?_
  dsimp only [List.set]
  refine z_aload_n (pc' := 51) X dX8_isDone_50 rfl rfl ?_
  refine z_mget (pc' := 54) X 13 rfl (by decide) q2076 rfl dX8_isDone_51 rfl ?_
  refine z_bipush (pc' := 56) X dX8_isDone_54 rfl (by decide) ?_
  refine z_iload_n (pc' := 57) X dX8_isDone_56 rfl rfl ?_
  refine z_imul (pc' := 58) X dX8_isDone_57 rfl ?_
  refine z_mld (pc' := 59) X (r := 8) (by decide) (show 0 ≤ _ ∧ _ < (186 : Int) by omega) dX8_isDone_58 rfl (fun hv58 => ?_)
  rw [hw.1]
  rw [hw.1] at hv58
  by_cases s59_61 : w.1 = 61
  · refine z_lookup (off := 49) (tgt := 108) X (by first | assumption | omega) dX8_isDone_59 (by decide) (by rw [s59_61]; decide) (by decide) ?_
    refine z_iconst (pc' := 109) X dX8_isDone_108 rfl ?_
    refine z_istore (pc' := 111) X dX8_isDone_109 rfl (by decide) rfl ?_
    dsimp only [List.set]
    have loop111 : ∀ (N : Nat) (k : Int), (0 ≤ k ∧ k ≤ 5) → (5 - k).toNat < N → ZP C 7 (mF ma h (mcopy M 8 (6 * i + 1) 1 8 k)) 0 0 [some (vR (ma 0)), some (vI i), some (vI w.2.1), some (vI (M 8 (6 * i + 2))), some (vI (M 8 (6 * i + 3))), some (vI (M 8 (6 * i + 4))), some (vI k)] 111 [] := by
      intro N
      induction N with
      | zero => intro k hkk hN; exact absurd hN (Nat.not_lt_zero _)
      | succ N ih111 =>
        intro k hkk hN
        refine ZP.fact (P := mR (mcopy M 8 (6 * i + 1) 1 8 k)) (fun _ h => h.1.2.2.2) (fun hR111 => ?_)
        refine z_iload (pc' := 113) X dX8_isDone_111 rfl rfl ?_
        refine z_iconst (pc' := 114) X dX8_isDone_113 rfl ?_
        refine z_icmp_ge (tgt := 147) (pc' := 117) X (by first | assumption | omega) (by first | assumption | omega) dX8_isDone_114 rfl (by decide) (fun c114 => ?_) (fun c114 => ?_)
        · refine z_iconst (pc' := 148) X dX8_isDone_147 rfl ?_
          refine z_zreturn X dX8_isDone_148 (by first | exact nar_0 | exact nar_1 | exact nar_b (by omega)) (Nat.le_refl _) (Nat.le_refl _) (fun _ hh => ⟨_, hh, _, rfl, ?_, ?_⟩)
          · first | assumption | omega
          · obtain rfl : k = 5 := by omega
            have eD : doW w S = (1, recS w S) := by unfold doW; rw [if_pos s59_61]
            rw [eD]
            exact ⟨rfl, rec_end hS hw s59_61, doneF.r1 (fun q hq => mcopy_r hq)⟩
        · refine z_aload_n (pc' := 118) X dX8_isDone_117 rfl rfl ?_
          refine z_mget (pc' := 121) X 0 rfl (by decide) q2063 rfl dX8_isDone_118 rfl ?_
          refine z_bipush (pc' := 123) X dX8_isDone_121 rfl (by decide) ?_
          refine z_iload (pc' := 125) X dX8_isDone_123 rfl rfl ?_
          refine z_iadd (pc' := 126) X dX8_isDone_125 rfl ?_
          refine z_aload_n (pc' := 127) X dX8_isDone_126 rfl rfl ?_
          refine z_mget (pc' := 130) X 13 rfl (by decide) q2076 rfl dX8_isDone_127 rfl ?_
          refine z_bipush (pc' := 132) X dX8_isDone_130 rfl (by decide) ?_
          refine z_iload_n (pc' := 133) X dX8_isDone_132 rfl rfl ?_
          refine z_imul (pc' := 134) X dX8_isDone_133 rfl ?_
          refine z_iconst (pc' := 135) X dX8_isDone_134 rfl ?_
          refine z_iadd (pc' := 136) X dX8_isDone_135 rfl ?_
          refine z_iload (pc' := 138) X dX8_isDone_136 rfl rfl ?_
          refine z_iadd (pc' := 139) X dX8_isDone_138 rfl ?_
          refine z_mld (pc' := 140) X (r := 8) (by decide) (show 0 ≤ _ ∧ _ < (186 : Int) by omega) dX8_isDone_139 rfl (fun hv139 => ?_)
          have e139 : mcopy M 8 (6 * i + 1) 1 8 k 8 (6 * i + 1 + k) = M 8 (6 * i + 1 + k) := by rw [mcopy_r (by decide)]
          rw [e139]
          rw [e139] at hv139
          refine z_mst (pc' := 141) X (r := 1) (by decide) (show 0 ≤ _ ∧ _ < (321 : Int) by omega) (by first | assumption | omega) dX8_isDone_140 rfl (fun hR140 => ?_)
          refine z_iinc (pc' := 144) X dX8_isDone_141 rfl (by decide) rfl rfl ?_
          dsimp only [List.set]
          refine z_goto (tgt := 111) X dX8_isDone_144 (by decide) ?_
          rw [mcopy_s (by omega)]
          refine ZP.wk (L' := [some (vR (ma 0)), some (vI i), some (vI w.2.1), some (vI (M 8 (6 * i + 2))), some (vI (M 8 (6 * i + 3))), some (vI (M 8 (6 * i + 4))), some (vI _)]) (And.intro rfl (And.intro rfl (And.intro rfl (And.intro rfl (And.intro rfl (And.intro rfl (And.intro rfl (trivial)))))))) ?_
          exact ih111 _ (by omega) (by omega)
    refine ZP.imp (Φ' := mF ma h (mcopy M 8 (6 * i + 1) 1 8 0)) (fun _ hx => by rw [mcopy_0]; exact hx) ?_
    refine ZP.wk (L' := [some (vR (ma 0)), some (vI i), some (vI w.2.1), some (vI (M 8 (6 * i + 2))), some (vI (M 8 (6 * i + 3))), some (vI (M 8 (6 * i + 4))), some (vI _)]) (And.intro rfl (And.intro rfl (And.intro rfl (And.intro rfl (And.intro rfl (And.intro rfl (And.intro rfl (trivial)))))))) ?_
    exact loop111 _ _ (by decide) (Nat.lt_succ_self _)
  by_cases s59_98 : w.1 = 98
  · refine z_lookup (off := 122) (tgt := 181) X (by first | assumption | omega) dX8_isDone_59 (by decide) (by rw [s59_98]; decide) (by decide) ?_
    rw [hw.2.2.1 (by omega)]
    refine z_aload_n (pc' := 182) X dX8_isDone_181 rfl rfl ?_
    refine z_iload_n (pc' := 183) X dX8_isDone_182 rfl rfl ?_
    refine z_iload_n (pc' := 184) X dX8_isDone_183 rfl rfl ?_
    refine z_V_int2 (pc' := 187) X rfl Y_X8_whyNoBeating q2216 dX8_isDone_184 rfl (by decide) (Nat.le_refl _) (Nat.le_refl _) (Nat.le_of_ble_eq_true rfl) (c_X8_whyNoBeating _ _ _ _ w.2.1 w.2.2.1 (by omega) (by omega) hI) (fun r184 M184 hr184 hp184 hR184 => ?_)
    obtain ⟨a184, b184⟩ := hp184
    rw [mWhyB_S hS (by omega)] at a184
    have hS184 := hS.row5 b184
    have hI184 : mI M184 := okN.of (by decide : (999 : Int) ≤ 2000) (by omega) (by omega) hS184 hkS
    refine z_if_ne (tgt := 203) (pc' := 190) X (by first | assumption | omega) dX8_isDone_187 rfl (by decide) (fun c187 => ?_) (fun c187 => ?_)
    · refine z_iconst (pc' := 204) X dX8_isDone_203 rfl ?_
      refine z_zreturn X dX8_isDone_204 (by first | exact nar_0 | exact nar_1 | exact nar_b (by omega)) (Nat.le_refl _) (Nat.le_refl _) (fun _ hh => ⟨_, hh, _, rfl, ?_, ?_⟩)
      · first | assumption | omega
      · have eD : doW w S = (0, S) := by unfold doW; rw [if_neg (by omega)]; rw [if_pos s59_98]; rw [if_neg (by omega)]
        rw [eD]
        exact ⟨rfl, hS184, ⟨fun j _ => by rw [b184 0 (by decide)], fun q _ _ z _ => b184 q z⟩⟩
    · refine z_aload_n (pc' := 191) X dX8_isDone_190 rfl rfl ?_
      refine z_iload_n (pc' := 192) X dX8_isDone_191 rfl rfl ?_
      refine z_iload_n (pc' := 193) X dX8_isDone_192 rfl rfl ?_
      refine z_V_int2 (pc' := 196) X rfl Y_X8_beats q2236 dX8_isDone_193 rfl (by decide) (Nat.le_refl _) (Nat.le_refl _) (Nat.le_of_ble_eq_true rfl) (c_X8_beats _ _ _ _ w.2.1 w.2.2.1 S.2.1 (by omega) (by omega) hI184 hS184.2.1) (fun r193 M193 hr193 hp193 hR193 => ?_)
      have h193 := beats_end hS184 kb (by omega) hp193
      have e193 := hp193.1
      refine z_if_le (tgt := 203) (pc' := 199) X (by first | assumption | omega) dX8_isDone_196 rfl (by decide) (fun c196 => ?_) (fun c196 => ?_)
      · omega
      · refine z_iconst (pc' := 200) X dX8_isDone_199 rfl ?_
        refine z_goto (tgt := 204) X dX8_isDone_200 (by decide) ?_
        refine z_zreturn X dX8_isDone_204 (by first | exact nar_0 | exact nar_1 | exact nar_b (by omega)) (Nat.le_refl _) (Nat.le_refl _) (fun _ hh => ⟨_, hh, _, rfl, ?_, ?_⟩)
        · first | assumption | omega
        · have eD : doW w S = (1, beatS w.2.1 w.2.2.1 S) := by unfold doW; rw [if_neg (by omega)]; rw [if_pos s59_98]; rw [if_pos (by omega)]
          rw [eD]
          exact ⟨rfl, h193, ⟨fun j _ => by rw [hp193.2.2.2.2 0 (by decide) (by decide), b184 0 (by decide)], fun q x y z _ => (hp193.2.2.2.2 q y z).trans (b184 q z)⟩⟩
  by_cases s59_100 : w.1 = 100
  · refine z_lookup (off := 90) (tgt := 149) X (by first | assumption | omega) dX8_isDone_59 (by decide) (by rw [s59_100]; decide) (by decide) ?_
    rw [hw.2.2.1 (by omega), hw.2.2.2.1 (by omega), hw.2.2.2.2.1 (by omega)]
    refine z_aload_n (pc' := 150) X dX8_isDone_149 rfl rfl ?_
    refine z_iload_n (pc' := 151) X dX8_isDone_150 rfl rfl ?_
    refine z_iload (pc' := 153) X dX8_isDone_151 rfl rfl ?_
    refine z_iload (pc' := 155) X dX8_isDone_153 rfl rfl ?_
    refine z_V_fun3 (pc' := 158) X rfl Y_X8_whyNot q2135 dX8_isDone_155 rfl (by decide) (Nat.le_refl _) (Nat.le_refl _) (Nat.le_of_ble_eq_true rfl) (c_X8_whyNot _ _ _ _ w.2.1 w.2.2.2.1 w.2.2.2.2.1 (by omega) (by omega) (by omega) hI) (fun r155 hr155 hp155 => ?_)
    subst hp155
    have e155 := mWhyIn_S hS (c := w.2.1) (w := w.2.2.2.1) (z := w.2.2.2.2.1) (by omega)
    rw [e155]
    rw [e155] at hr155
    refine z_if_ne (tgt := 179) (pc' := 161) X (by first | assumption | omega) dX8_isDone_158 rfl (by decide) (fun c158 => ?_) (fun c158 => ?_)
    · refine z_iconst (pc' := 180) X dX8_isDone_179 rfl ?_
      refine z_zreturn X dX8_isDone_180 (by first | exact nar_0 | exact nar_1 | exact nar_b (by omega)) (Nat.le_refl _) (Nat.le_refl _) (fun _ hh => ⟨_, hh, _, rfl, ?_, ?_⟩)
      · first | assumption | omega
      · have eD : doW w S = (0, S) := by unfold doW; rw [if_neg (by omega)]; rw [if_neg (by omega)]; rw [if_pos s59_100]; rw [if_neg (by omega)]
        rw [eD]
        exact ⟨rfl, hS, doneF.rf⟩
    · have hw24 : M 1 4 ≠ 24 := by
        intro q
        have e0 : whyInS S w.2.1 w.2.2.2.1 w.2.2.2.2.1 = 0 := by omega
        unfold whyInS at e0
        rw [if_pos (by omega)] at e0
        exact absurd e0 (by decide)
      refine z_aload_n (pc' := 162) X dX8_isDone_161 rfl rfl ?_
      refine z_iload_n (pc' := 163) X dX8_isDone_162 rfl rfl ?_
      refine z_iload_n (pc' := 164) X dX8_isDone_163 rfl rfl ?_
      refine z_iload (pc' := 166) X dX8_isDone_164 rfl rfl ?_
      refine z_iload (pc' := 168) X dX8_isDone_166 rfl rfl ?_
      refine z_V_int4 (pc' := 171) X rfl Y_X8_comes q2158 dX8_isDone_168 rfl (by decide) (Nat.le_refl _) (Nat.le_refl _) (Nat.le_of_ble_eq_true rfl) (c_X8_comes _ _ _ _ w.2.1 w.2.2.1 w.2.2.2.1 w.2.2.2.2.1 (by omega) (by omega) (by omega) (by omega) (by omega) (by rw [mDebt_S hS (by omega)]; exact (kc3 w.2.1 (by omega) (by omega)).1)) (fun r168 M168 hr168 hp168 hR168 => ?_)
      obtain ⟨f1, f2, f3⟩ := comes_end hS (by omega) (by omega) hp168
      have fr : -1 ≤ delR w.2.2.2.1 w.2.2.2.2.1 S := by unfold delR; split <;> omega
      refine z_iconst (pc' := 172) X dX8_isDone_171 rfl ?_
      refine z_icmp_lt (tgt := 179) (pc' := 175) X (by first | assumption | omega) (by first | assumption | omega) dX8_isDone_172 rfl (by decide) (fun c172 => ?_) (fun c172 => ?_)
      · omega
      · refine z_iconst (pc' := 176) X dX8_isDone_175 rfl ?_
        refine z_goto (tgt := 180) X dX8_isDone_176 (by decide) ?_
        refine z_zreturn X dX8_isDone_180 (by first | exact nar_0 | exact nar_1 | exact nar_b (by omega)) (Nat.le_refl _) (Nat.le_refl _) (fun _ hh => ⟨_, hh, _, rfl, ?_, ?_⟩)
        · first | assumption | omega
        · have eD : doW w S = (1, delS w.2.1 w.2.2.1 w.2.2.2.1 w.2.2.2.2.1 S) := by unfold doW; rw [if_neg (by omega)]; rw [if_neg (by omega)]; rw [if_pos s59_100]; rw [if_pos (by omega)]
          rw [eD]
          exact ⟨rfl, f2, doneF.r1 f3⟩
  by_cases s59_109 : w.1 = 109
  · refine z_lookup (off := 170) (tgt := 229) X (by first | assumption | omega) dX8_isDone_59 (by decide) (by rw [s59_109]; decide) (by decide) ?_
    rw [hw.2.2.1 (by omega), hw.2.2.2.1 (by omega)]
    refine z_aload_n (pc' := 230) X dX8_isDone_229 rfl rfl ?_
    refine z_iload_n (pc' := 231) X dX8_isDone_230 rfl rfl ?_
    refine z_iload_n (pc' := 232) X dX8_isDone_231 rfl rfl ?_
    refine z_iload (pc' := 234) X dX8_isDone_232 rfl rfl ?_
    refine z_V_fun3 (pc' := 237) X rfl Y_X8_whyNoSheets q2292 dX8_isDone_234 rfl (by decide) (Nat.le_refl _) (Nat.le_refl _) (Nat.le_of_ble_eq_true rfl) (c_X8_whyNoSheets _ _ _ _ w.2.1 w.2.2.1 w.2.2.2.1 (by omega) (by omega) (by omega) hI) (fun r234 hr234 hp234 => ?_)
    subst hp234
    have e234 := mWhyS_S hS (v := w.2.1) (m := w.2.2.1) (n := w.2.2.2.1) (by omega) (by omega)
    rw [e234]
    rw [e234] at hr234
    refine z_if_ne (tgt := 255) (pc' := 240) X (by first | assumption | omega) dX8_isDone_237 rfl (by decide) (fun c237 => ?_) (fun c237 => ?_)
    · refine z_iconst (pc' := 256) X dX8_isDone_255 rfl ?_
      refine z_zreturn X dX8_isDone_256 (by first | exact nar_0 | exact nar_1 | exact nar_b (by omega)) (Nat.le_refl _) (Nat.le_refl _) (fun _ hh => ⟨_, hh, _, rfl, ?_, ?_⟩)
      · first | assumption | omega
      · have eD : doW w S = (0, S) := by unfold doW; rw [if_neg (by omega)]; rw [if_neg (by omega)]; rw [if_neg (by omega)]; rw [if_pos s59_109]; rw [if_neg (by omega)]
        rw [eD]
        exact ⟨rfl, hS, doneF.rf⟩
    · have y245 := mWhyS0 (M := M) (v := w.2.1) (m := w.2.2.1) (n := w.2.2.2.1) (by rw [e234]; exact c237)
      have p5 := hS.2.2.1.1
      have p5b := hS.2.2.1.2.1
      refine z_aload_n (pc' := 241) X dX8_isDone_240 rfl rfl ?_
      refine z_iload_n (pc' := 242) X dX8_isDone_241 rfl rfl ?_
      refine z_iload_n (pc' := 243) X dX8_isDone_242 rfl rfl ?_
      refine z_iload (pc' := 245) X dX8_isDone_243 rfl rfl ?_
      refine z_V_int3 (pc' := 248) X rfl Y_X8_makes q2303 dX8_isDone_245 rfl (by decide) (Nat.le_refl _) (Nat.le_refl _) (Nat.le_of_ble_eq_true rfl) (c_X8_makes _ _ _ _ w.2.1 w.2.2.1 w.2.2.2.1 S (by omega) (by omega) (by omega) hI hS y245.2.2.2.2 y245.2.1 (by omega) y245.2.2.1) (fun r245 M245 hr245 hp245 hR245 => ?_)
      obtain ⟨f1, f2, f3⟩ := hp245
      rw [← (mk_eq hS (by omega) (by omega)).2.2.1] at f1
      have fmk := mkN_b hkS.1 (v := w.2.1) (m := w.2.2.1) (n := w.2.2.2.1) (by omega) (by omega) (by omega) (by rw [(mk_eq (n := 0) hS (by omega) (by omega)).1]; exact y245.2.2.2.2)
      refine z_if_lt (tgt := 255) (pc' := 251) X (by first | assumption | omega) dX8_isDone_248 rfl (by decide) (fun c248 => ?_) (fun c248 => ?_)
      · omega
      · refine z_iconst (pc' := 252) X dX8_isDone_251 rfl ?_
        refine z_goto (tgt := 256) X dX8_isDone_252 (by decide) ?_
        refine z_zreturn X dX8_isDone_256 (by first | exact nar_0 | exact nar_1 | exact nar_b (by omega)) (Nat.le_refl _) (Nat.le_refl _) (fun _ hh => ⟨_, hh, _, rfl, ?_, ?_⟩)
        · first | assumption | omega
        · have eD : doW w S = (1, makeS w.2.1 w.2.2.1 w.2.2.2.1 S) := by unfold doW; rw [if_neg (by omega)]; rw [if_neg (by omega)]; rw [if_neg (by omega)]; rw [if_pos s59_109]; rw [if_pos (by omega)]
          rw [eD]
          exact ⟨rfl, f2, doneF.r1 f3⟩
  by_cases s59_115 : w.1 = 115
  · refine z_lookup (off := 146) (tgt := 205) X (by first | assumption | omega) dX8_isDone_59 (by decide) (by rw [s59_115]; decide) (by decide) ?_
    rw [hw.2.2.1 (by omega)]
    have k205 := kc4 w.2.1 (by omega) (by omega)
    have u205 := mU_S hS (v := w.2.1) (by omega)
    have v205 := mV_S hS (v := w.2.1) (w := 1) (by omega) (by omega)
    refine z_aload_n (pc' := 206) X dX8_isDone_205 rfl rfl ?_
    refine z_iload_n (pc' := 207) X dX8_isDone_206 rfl rfl ?_
    refine z_iload_n (pc' := 208) X dX8_isDone_207 rfl rfl ?_
    refine z_V_fun2 (pc' := 211) X rfl Y_X8_canStamp q2250 dX8_isDone_208 rfl (by decide) (Nat.le_refl _) (Nat.le_refl _) (Nat.le_of_ble_eq_true rfl) (c_X8_canStamp _ _ _ _ w.2.1 w.2.2.1 (by omega) (by omega)) (fun r208 hr208 hp208 => ?_)
    refine z_if_eq (tgt := 227) (pc' := 214) X (by first | assumption | omega) dX8_isDone_211 rfl (by decide) (fun c211 => ?_) (fun c211 => ?_)
    · refine z_iconst (pc' := 228) X dX8_isDone_227 rfl ?_
      refine z_zreturn X dX8_isDone_228 (by first | exact nar_0 | exact nar_1 | exact nar_b (by omega)) (Nat.le_refl _) (Nat.le_refl _) (fun _ hh => ⟨_, hh, _, rfl, ?_, ?_⟩)
      · first | assumption | omega
      · have eD : doW w S = (0, S) := by unfold doW; rw [if_neg (by omega)]; rw [if_neg (by omega)]; rw [if_neg (by omega)]; rw [if_neg (by omega)]; rw [if_pos s59_115]; rw [if_neg (by omega)]
        rw [eD]
        exact ⟨rfl, hS, doneF.rf⟩
    · refine z_aload_n (pc' := 215) X dX8_isDone_214 rfl rfl ?_
      refine z_iload_n (pc' := 216) X dX8_isDone_215 rfl rfl ?_
      refine z_iload_n (pc' := 217) X dX8_isDone_216 rfl rfl ?_
      refine z_V_int2 (pc' := 220) X rfl Y_X8_stamps q2254 dX8_isDone_217 rfl (by decide) (Nat.le_refl _) (Nat.le_refl _) (Nat.le_of_ble_eq_true rfl) (c_X8_stamps _ _ _ _ w.2.1 w.2.2.1 (by omega) (by omega) (by omega)) (fun r217 M217 hr217 hp217 hR217 => ?_)
      obtain ⟨f1, f2⟩ := hp217
      refine z_if_le (tgt := 227) (pc' := 223) X (by first | assumption | omega) dX8_isDone_220 rfl (by decide) (fun c220 => ?_) (fun c220 => ?_)
      · omega
      · refine z_iconst (pc' := 224) X dX8_isDone_223 rfl ?_
        refine z_goto (tgt := 228) X dX8_isDone_224 (by decide) ?_
        refine z_zreturn X dX8_isDone_228 (by first | exact nar_0 | exact nar_1 | exact nar_b (by omega)) (Nat.le_refl _) (Nat.le_refl _) (fun _ hh => ⟨_, hh, _, rfl, ?_, ?_⟩)
        · first | assumption | omega
        · have eD : doW w S = (1, stpS w.2.1 w.2.2.1 S) := by unfold doW; rw [if_neg (by omega)]; rw [if_neg (by omega)]; rw [if_neg (by omega)]; rw [if_neg (by omega)]; rw [if_pos s59_115]; rw [if_pos (by omega)]
          rw [eD]
          exact ⟨rfl, (by rw [f2, v205]; exact hS.set (show scI _ by unfold scI; omega)), doneF.r1 (fun q hq => by rw [f2]; exact mset_r hq)⟩
  refine z_lookup (off := 198) (tgt := 257) X (by first | assumption | omega) dX8_isDone_59 (by decide) (by show Op.lookupswitch.offset [(61, 49), (98, 122), (100, 90), (109, 170), (115, 146)] 198 (w.1) = 198; rw [Op.lookupswitch.offset_cons, if_neg (fun q => s59_61 q.symm), Op.lookupswitch.offset_cons, if_neg (fun q => s59_98 q.symm), Op.lookupswitch.offset_cons, if_neg (fun q => s59_100 q.symm), Op.lookupswitch.offset_cons, if_neg (fun q => s59_109 q.symm), Op.lookupswitch.offset_cons, if_neg (fun q => s59_115 q.symm), Op.lookupswitch.offset_nil]) (by decide) ?_
  have e110 : w.1 = 110 := by omega
  have e257 := hS.1 0 (by unfold scI; omega)
  refine z_aload_n (pc' := 258) X dX8_isDone_257 rfl rfl ?_
  refine z_iload_n (pc' := 259) X dX8_isDone_258 rfl rfl ?_
  refine z_V_fun1 (pc' := 262) X rfl Y_X8_canPass q2370 dX8_isDone_259 rfl (by decide) (Nat.le_refl _) (Nat.le_refl _) (Nat.le_of_ble_eq_true rfl) (c_X8_canPass _ _ _ _ w.2.1 (by omega) (by omega)) (fun r259 hr259 hp259 => ?_)
  refine z_if_eq (tgt := 277) (pc' := 265) X (by first | assumption | omega) dX8_isDone_262 rfl (by decide) (fun c262 => ?_) (fun c262 => ?_)
  · refine z_iconst (pc' := 278) X dX8_isDone_277 rfl ?_
    refine z_zreturn X dX8_isDone_278 (by first | exact nar_0 | exact nar_1 | exact nar_b (by omega)) (Nat.le_refl _) (Nat.le_refl _) (fun _ hh => ⟨_, hh, _, rfl, ?_, ?_⟩)
    · first | assumption | omega
    · have eD : doW w S = (0, S) := by unfold doW; rw [if_neg (by omega)]; rw [if_neg (by omega)]; rw [if_neg (by omega)]; rw [if_neg (by omega)]; rw [if_neg (by omega)]; rw [if_neg (by omega)]
      rw [eD]
      exact ⟨rfl, hS, doneF.rf⟩
  · refine z_aload_n (pc' := 266) X dX8_isDone_265 rfl rfl ?_
    refine z_iload_n (pc' := 267) X dX8_isDone_266 rfl rfl ?_
    refine z_V_int1 (pc' := 270) X rfl Y_X8_passes q2374 dX8_isDone_267 rfl (by decide) (Nat.le_refl _) (Nat.le_refl _) (Nat.le_of_ble_eq_true rfl) (c_X8_passes _ _ _ _ w.2.1 S 999 P Q hS hkS (by omega) (by omega) (by omega)) (fun r267 M267 hr267 hp267 hR267 => ?_)
    obtain ⟨f1, f2, f3, f4⟩ := hp267
    have fnn := nLostN_nn hkS w.2.1.toNat
    refine z_if_lt (tgt := 277) (pc' := 273) X (by first | assumption | omega) dX8_isDone_270 rfl (by decide) (fun c270 => ?_) (fun c270 => ?_)
    · omega
    · refine z_iconst (pc' := 274) X dX8_isDone_273 rfl ?_
      refine z_goto (tgt := 278) X dX8_isDone_274 (by decide) ?_
      refine z_zreturn X dX8_isDone_278 (by first | exact nar_0 | exact nar_1 | exact nar_b (by omega)) (Nat.le_refl _) (Nat.le_refl _) (fun _ hh => ⟨_, hh, _, rfl, ?_, ?_⟩)
      · first | assumption | omega
      · have eD : doW w S = (1, nightN w.2.1.toNat S) := by unfold doW; rw [if_neg (by omega)]; rw [if_neg (by omega)]; rw [if_neg (by omega)]; rw [if_neg (by omega)]; rw [if_neg (by omega)]; rw [if_pos (by omega)]
        rw [eD]
        exact ⟨rfl, f2, ⟨f3, fun q x y _ z => f4 q x y z⟩⟩
end M25

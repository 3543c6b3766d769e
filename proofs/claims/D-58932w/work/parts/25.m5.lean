/-! THE MODEL: mould spreads; a day; bales beaten; piles packed -/
section M5
def wetW (b : Bl) : Int := if 30 ≤ b.2.2.1 then b.2.2.2 + 1 else 0
def wetB (b : Bl) : Bl := if b.2.2.2 = -1 then b else (b.1, b.2.1, b.2.2.1, if wetW b = 5 then -1 else wetW b)
def wetC (b : Bl) : Int := if b.2.2.2 = -1 then 0 else if wetW b = 5 then 1 else 0
def wetN : List Bl → Int
  | [] => 0
  | b :: t => wetC b + wetN t
theorem wetN_c {b : Bl} {t : List Bl} : wetN (b :: t) = wetC b + wetN t := rfl
theorem wetN_b (bs : List Bl) : 0 ≤ wetN bs ∧ wetN bs ≤ bs.length := by
  induction bs with
  | nil => exact ⟨Int.le_refl _, Int.le_refl _⟩
  | cons b t ih =>
    have h2 : 0 ≤ wetC b ∧ wetC b ≤ 1 := by unfold wetC; (repeat' split) <;> omega
    rw [wetN_c, List.length_cons]
    omega
theorem wetB_ok {b : Bl} (h : okB b) : okB (wetB b) := by
  obtain ⟨h0, h1, h2, h3⟩ := h
  unfold wetB
  split
  · exact ⟨h0, h1, h2, h3⟩
  · refine ⟨h0, h1, h2, ?_⟩
    unfold wetW
    dsimp only
    (repeat' split) <;> omega
def moG (L : List Bl) (j : Int) : Int := if 1 ≤ j ∧ (L[(j - 1).toNat]?).map (fun b => b.2.2.2) = some (-1) then 1 else 0
def sprT (G : Int → Int) (i : Int) (b : Bl) : Prop := b.2.2.2 ≠ -1 ∧ 20 ≤ b.2.2.1 ∧ (G i = 1 ∨ G (i + 2) = 1)
def sprB (G : Int → Int) (i : Int) (b : Bl) : Bl := if b.2.2.2 ≠ -1 ∧ 20 ≤ b.2.2.1 ∧ (G i = 1 ∨ G (i + 2) = 1) then (b.1, b.2.1, b.2.2.1, -1) else b
def sprC (G : Int → Int) (i : Int) (b : Bl) : Int := if b.2.2.2 ≠ -1 ∧ 20 ≤ b.2.2.1 ∧ (G i = 1 ∨ G (i + 2) = 1) then 1 else 0
def sprL (G : Int → Int) : Int → List Bl → List Bl
  | _, [] => []
  | i, b :: t => sprB G i b :: sprL G (i + 1) t
def sprN (G : Int → Int) : Int → List Bl → Int
  | _, [] => 0
  | i, b :: t => sprC G i b + sprN G (i + 1) t
theorem sprL_c {G : Int → Int} {i : Int} {b : Bl} {t : List Bl} : sprL G i (b :: t) = sprB G i b :: sprL G (i + 1) t := rfl
theorem sprN_c {G : Int → Int} {i : Int} {b : Bl} {t : List Bl} : sprN G i (b :: t) = sprC G i b + sprN G (i + 1) t := rfl
theorem sprN_b {G : Int → Int} (bs : List Bl) : ∀ i, 0 ≤ sprN G i bs ∧ sprN G i bs ≤ bs.length := by
  induction bs with
  | nil => exact fun i => ⟨Int.le_refl _, Int.le_refl _⟩
  | cons b t ih =>
    intro i
    have h1 := ih (i + 1)
    have h2 : 0 ≤ sprC G i b ∧ sprC G i b ≤ 1 := by unfold sprC; split <;> omega
    rw [sprN_c, List.length_cons]
    omega
theorem sprB_ok {G : Int → Int} {i : Int} {b : Bl} (h : okB b) : okB (sprB G i b) := by
  unfold sprB
  split
  · exact ⟨h.1, h.2.1, h.2.2.1, by show -1 ≤ (-1 : Int) ∧ (-1 : Int) ≤ 4; decide⟩
  · exact h
theorem spr_congr {G G' : Int → Int} : ∀ (bs : List Bl) (i : Int), (∀ j, i ≤ j → j < i + bs.length + 2 → G j = G' j) → sprL G i bs = sprL G' i bs ∧ sprN G i bs = sprN G' i bs
  | [], _, _ => ⟨rfl, rfl⟩
  | b :: t, i, h => by
    rw [List.length_cons] at h
    obtain ⟨e1, e2⟩ := spr_congr t (i + 1) (fun j a c => h j (by omega) (by omega))
    have a1 := h i (by omega) (by omega)
    have a2 := h (i + 2) (by omega) (by omega)
    rw [sprL_c, sprL_c, sprN_c, sprN_c, e1, e2]
    unfold sprB sprC
    rw [a1, a2]
    exact ⟨rfl, rfl⟩
/-- row 6 filled below k -/
def mMoF (M : MM) (k : Int) : MM := fun r j => if r = 6 ∧ 0 ≤ j ∧ j < k then (if (1 ≤ j ∧ j ≤ M 1 4) ∧ mB M (j - 1) 3 = -1 then 1 else 0) else M r j
theorem mMoF_0 {M : MM} : mMoF M 0 = M := by
  funext r j
  exact if_neg (by omega)
theorem mMoF_s {M : MM} {k z : Int} (hk : 0 ≤ k) (hz : z = if (1 ≤ k ∧ k ≤ M 1 4) ∧ mB M (k - 1) 3 = -1 then 1 else 0) : mset (mMoF M k) 6 k z = mMoF M (k + 1) := by
  funext r j
  by_cases h : r ≠ 6 ∨ j ≠ k
  · rw [mset_n h]
    unfold mMoF
    by_cases h2 : r = 6 ∧ 0 ≤ j ∧ j < k
    · rw [if_pos h2, if_pos (show r = 6 ∧ 0 ≤ j ∧ j < k + 1 from ⟨h2.1, h2.2.1, by omega⟩)]
    · rw [if_neg h2, if_neg (show ¬ (r = 6 ∧ 0 ≤ j ∧ j < k + 1) from fun q => h2 ⟨q.1, q.2.1, by rcases h with h | h <;> omega⟩)]
  · have h1 : r = 6 := Classical.byContradiction fun q => h (Or.inl q)
    have h2 : j = k := Classical.byContradiction fun q => h (Or.inr q)
    subst h1 h2
    rw [mset_s, hz]
    exact (if_pos (⟨rfl, hk, by omega⟩ : (6 : Nat) = 6 ∧ 0 ≤ j ∧ j < j + 1)).symm
theorem mMoF_r {M : MM} {k : Int} {r : Nat} (h : r ≠ 6) : mMoF M k r = M r := by
  funext j
  exact if_neg (fun q => h q.1)
theorem mMoF_G {M : MM} {L : List Bl} (h : bRep (M 1) L) {j : Int} (hj : 0 ≤ j ∧ j < 26) : mMoF M 26 6 j = moG L j := by
  have h1 := h.1
  unfold mMoF moG
  rw [if_pos ⟨rfl, hj⟩]
  by_cases h2 : 1 ≤ j ∧ j ≤ M 1 4
  · have hl : (j - 1).toNat < L.length := by omega
    have h3 := (h.2.2 (j - 1).toNat L[(j - 1).toNat] (List.getElem?_eq_getElem hl)).2.2.2
    rw [show (((j - 1).toNat : Nat) : Int) = j - 1 by omega] at h3
    have h4 : mB M (j - 1) 3 = (L[(j - 1).toNat]).2.2.2 := h3
    rw [List.getElem?_eq_getElem hl, h4]
    by_cases h5 : (L[(j - 1).toNat]).2.2.2 = -1
    · rw [if_pos ⟨h2, h5⟩, if_pos ⟨h2.1, by rw [Option.map_some, h5]⟩]
    · rw [if_neg (fun q => h5 q.2), if_neg (fun q => h5 (by have q2 := q.2; rw [Option.map_some] at q2; exact Option.some.inj q2))]
  · rw [if_neg (fun q => h2 q.1)]
    by_cases h5 : 1 ≤ j
    · rw [List.getElem?_eq_none (by omega), if_neg (fun q => by simp at q)]
    · rw [if_neg (fun q => h5 q.1)]
theorem Y_X8_spreads : zYV yX8_spreads cX8_spreads 4 (some .int) 0 := ⟨⟨q2388, qs85, q132, q2389⟩, by decide +kernel, by decide⟩
set_option maxRecDepth 100000 in
theorem c_X8_spreads (l : Launch) (g : zG) (ma : Nat → Nat) (M : MM) (bs : List Bl) (hb0 : bRep (M 1) bs) (hok0 : ∀ b ∈ bs, okB b) : mInt l yX8_spreads cX8_spreads 4 (some .int) 4 [vR (ma 0)] g ma M (fun r M' => r = wetN bs + sprN (moG (bs.map wetB)) 0 (bs.map wetB) ∧ bRep (M' 1) (sprL (moG (bs.map wetB)) 0 (bs.map wetB)) ∧ bO (M 1) (M' 1) ∧ ∀ q, q ≠ 1 → q ≠ 6 → M' q = M q) := by
  refine mInt.mk (L0 := [some (vR (ma 0)), none, none, none]) (by decide) rfl (Nat.le_of_ble_eq_true rfl) rfl (fun C h hg hl hR X => ?_)
  subst hg hl
  have hlen := hb0.2.1
  have hwn := wetN_b bs
  have hsn := sprN_b (G := moG (bs.map wetB)) (bs.map wetB) 0
  rw [List.length_map] at hsn
  refine z_iconst (pc' := 1) X dX8_spreads_0 rfl ?_
  refine z_istore_n (pc' := 2) X dX8_spreads_1 rfl (by decide) rfl ?_
  dsimp only [List.set]
  refine z_iconst (pc' := 3) X dX8_spreads_2 rfl ?_
  refine z_istore_n (pc' := 4) X dX8_spreads_3 rfl (by decide) rfl ?_
  dsimp only [List.set]
  have loop4 : ∀ (N : Nat) (s p : Int) (Mx : MM) (D T : List Bl), (p = (D.length : Int)) → (bRep (Mx 1) (D ++ T)) → (∀ b ∈ T, okB b) → (D ++ T.map wetB = bs.map wetB) → (s + wetN T = wetN bs) → (0 ≤ s ∧ D.length + T.length ≤ 24) → (bO (M 1) (Mx 1)) → (∀ q, q ≠ 1 → q ≠ 6 → Mx q = M q) → T.length < N → ZP C 4 (mF ma h (Mx)) 0 0 [some (vR (ma 0)), some (vI s), some (vI p), none] 4 [] := by
    intro N
    induction N with
    | zero => intro s p Mx D T hp hb hok hf hs hl ho hr hN; exact absurd hN (Nat.not_lt_zero _)
    | succ N ih4 =>
      intro s p Mx D T hp hb hok hf hs hl ho hr hN
      refine ZP.fact (P := mR (Mx)) (fun _ h => h.1.2.2.2) (fun hR4 => ?_)
      subst hp
      refine z_iload_n (pc' := 5) X dX8_spreads_4 rfl rfl ?_
      refine z_aload_n (pc' := 6) X dX8_spreads_5 rfl rfl ?_
      refine z_mget (pc' := 9) X 0 rfl (by decide) q2063 rfl dX8_spreads_6 rfl ?_
      refine z_iconst (pc' := 10) X dX8_spreads_9 rfl ?_
      refine z_mld (pc' := 11) X (r := 1) (by decide) (show 0 ≤ _ ∧ _ < (321 : Int) by omega) dX8_spreads_10 rfl (fun hv10 => ?_)
      refine z_icmp_ge (tgt := 105) (pc' := 14) X (by first | assumption | omega) (by first | assumption | omega) dX8_spreads_11 rfl (by decide) (fun c11 => ?_) (fun c11 => ?_)
      · obtain rfl := hb.nil rfl c11
        have hs9 : s = wetN bs := by rw [show wetN ([] : List Bl) = 0 from rfl] at hs; omega
        rw [List.map_nil, List.append_nil] at hf
        rw [List.append_nil] at hb
        subst hf
        have hokw : ∀ b ∈ bs.map wetB, okB b := fun b hb => by obtain ⟨a, ha, rfl⟩ := List.mem_map.mp hb; exact wetB_ok (hok0 a ha)
        have hn4 := hb.1
        rw [List.length_map] at hn4
        refine z_iconst (pc' := 106) X dX8_spreads_105 rfl ?_
        refine z_istore_n (pc' := 107) X dX8_spreads_106 rfl (by decide) rfl ?_
        dsimp only [List.set]
        have loop107 : ∀ (N : Nat) (k : Int), (0 ≤ k ∧ k ≤ 26) → (26 - k).toNat < N → ZP C 4 (mF ma h (mMoF Mx k)) 0 0 [some (vR (ma 0)), some (vI s), some (vI k), none] 107 [] := by
          intro N
          induction N with
          | zero => intro k hk hN; exact absurd hN (Nat.not_lt_zero _)
          | succ N ih107 =>
            intro k hk hN
            refine ZP.fact (P := mR (mMoF Mx k)) (fun _ h => h.1.2.2.2) (fun hR107 => ?_)
            refine z_iload_n (pc' := 108) X dX8_spreads_107 rfl rfl ?_
            refine z_bipush (pc' := 110) X dX8_spreads_108 rfl (by decide) ?_
            refine z_icmp_ge (tgt := 154) (pc' := 113) X (by first | assumption | omega) (by first | assumption | omega) dX8_spreads_110 rfl (by decide) (fun c110 => ?_) (fun c110 => ?_)
            · obtain rfl : k = 26 := by omega
              refine z_iconst (pc' := 155) X dX8_spreads_154 rfl ?_
              refine z_istore_n (pc' := 156) X dX8_spreads_155 rfl (by decide) rfl ?_
              dsimp only [List.set]
              have loop156 : ∀ (N : Nat) (s2 p : Int) (My : MM) (D T : List Bl), (p = (D.length : Int)) → (bRep (My 1) (D ++ T)) → (∀ b ∈ T, okB b) → (D ++ sprL (moG (bs.map wetB)) D.length T = sprL (moG (bs.map wetB)) 0 (bs.map wetB)) → (s2 + sprN (moG (bs.map wetB)) D.length T = wetN bs + sprN (moG (bs.map wetB)) 0 (bs.map wetB)) → (0 ≤ s2 ∧ D.length + T.length ≤ 24) → (∀ j, 0 ≤ j → j < 26 → My 6 j = moG (bs.map wetB) j) → (bO (M 1) (My 1)) → (∀ q, q ≠ 1 → q ≠ 6 → My q = M q) → T.length < N → ZP C 4 (mF ma h (My)) 0 0 [some (vR (ma 0)), some (vI s2), some (vI p), none] 156 [] := by
                intro N
                induction N with
                | zero => intro s2 p My D T hp hb hok hf hs hl h6 ho hr hN; exact absurd hN (Nat.not_lt_zero _)
                | succ N ih156 =>
                  intro s2 p My D T hp hb hok hf hs hl h6 ho hr hN
                  refine ZP.fact (P := mR (My)) (fun _ h => h.1.2.2.2) (fun hR156 => ?_)
                  subst hp
                  refine z_iload_n (pc' := 157) X dX8_spreads_156 rfl rfl ?_
                  refine z_aload_n (pc' := 158) X dX8_spreads_157 rfl rfl ?_
                  refine z_mget (pc' := 161) X 0 rfl (by decide) q2063 rfl dX8_spreads_158 rfl ?_
                  refine z_iconst (pc' := 162) X dX8_spreads_161 rfl ?_
                  refine z_mld (pc' := 163) X (r := 1) (by decide) (show 0 ≤ _ ∧ _ < (321 : Int) by omega) dX8_spreads_162 rfl (fun hv162 => ?_)
                  refine z_icmp_ge (tgt := 209) (pc' := 166) X (by first | assumption | omega) (by first | assumption | omega) dX8_spreads_163 rfl (by decide) (fun c163 => ?_) (fun c163 => ?_)
                  · obtain rfl := hb.nil rfl c163
                    have hs8 : s2 = wetN bs + sprN (moG (bs.map wetB)) 0 (bs.map wetB) := by rw [show sprN (moG (bs.map wetB)) D.length ([] : List Bl) = 0 from rfl] at hs; omega
                    refine z_iload_n (pc' := 210) X dX8_spreads_209 rfl rfl ?_
                    refine z_ireturn X dX8_spreads_210 (Nat.le_refl _) (Nat.le_refl _) (fun _ hh => ⟨_, hh, _, rfl, ?_, ?_⟩)
                    · first | assumption | omega
                    · rw [show sprL (moG (bs.map wetB)) D.length ([] : List Bl) = [] from rfl, List.append_nil] at hf; rw [List.append_nil] at hb; exact ⟨hs8, by rw [← hf]; exact hb, ho, hr⟩
                  · obtain ⟨b, t, rfl⟩ := hb.cons rfl c163
                    obtain ⟨⟨e0, e1, e2, e3⟩, hd1, hd2, hd3⟩ := hb.hd
                    obtain ⟨k0, k1, k2, k3⟩ := hok b List.mem_cons_self
                    have hG1 := h6 D.length (by omega) (by omega)
                    have hG2 := h6 (D.length + 2) (by omega) (by omega)
                    refine z_aload_n (pc' := 167) X dX8_spreads_166 rfl rfl ?_
                    refine z_iload_n (pc' := 168) X dX8_spreads_167 rfl rfl ?_
                    refine z_V_fun1 (pc' := 171) X rfl Y_X8_isMouldy q2232 dX8_spreads_168 rfl (by decide) (Nat.le_refl _) (Nat.le_refl _) (Nat.le_of_ble_eq_true rfl) (c_X8_isMouldy _ _ _ _ _ (by first | assumption | omega)) (fun r168 hr168 hp168 => ?_)
                    refine z_if_ne (tgt := 203) (pc' := 174) X (by first | assumption | omega) dX8_spreads_171 rfl (by decide) (fun c171 => ?_) (fun c171 => ?_)
                    · refine z_iinc (pc' := 206) X dX8_spreads_203 rfl (by decide) rfl rfl ?_
                      dsimp only [List.set]
                      refine z_goto (tgt := 156) X dX8_spreads_206 (by decide) ?_
                      refine ZP.wk (L' := [some (vR (ma 0)), some (vI _), some (vI _), none]) (And.intro rfl (And.intro rfl (And.intro rfl (trivial)))) ?_
                      exact ih156 _ _ _ (D ++ [sprB (moG (bs.map wetB)) D.length b]) t (by rw [List.length_append]; rfl) (by rw [List.append_assoc]; first | (rw [show sprB (moG (bs.map wetB)) D.length b = (b.1, b.2.1, b.2.2.1, -1) from if_pos (by omega)]; exact hb2.1) | (rw [show sprB (moG (bs.map wetB)) D.length b = b from if_neg (by omega)]; exact hb)) (by exact fun q hq => hok q (List.mem_cons_of_mem _ hq)) (by rw [List.append_assoc, ← hf, List.length_append]; rfl) (by rw [sprN_c] at hs; rw [List.length_append]; show _ + sprN _ (D.length + 1) t = _; first | (rw [show sprC (moG (bs.map wetB)) D.length b = 1 from if_pos (by omega)] at hs; omega) | (rw [show sprC (moG (bs.map wetB)) D.length b = 0 from if_neg (by omega)] at hs; omega)) (by rw [List.length_cons] at hl; rw [List.length_append]; exact ⟨by omega, by show D.length + 1 + _ ≤ 24; omega⟩) (by first | exact h6 | exact fun j a c => by rw [mset_r (by decide)]; exact h6 j a c) (by first | exact ho.tr hb2.2 | exact ho) (by exact fun q hq h7 => by first | exact (mset_r hq).trans (hr q hq h7) | exact hr q hq h7) (by rw [List.length_cons] at hN; omega)
                    · refine z_aload_n (pc' := 175) X dX8_spreads_174 rfl rfl ?_
                      refine z_iload_n (pc' := 176) X dX8_spreads_175 rfl rfl ?_
                      refine z_iconst (pc' := 177) X dX8_spreads_176 rfl ?_
                      refine z_V_fun2 (pc' := 180) X rfl Y_X8_bale q2194 dX8_spreads_177 rfl (by decide) (Nat.le_refl _) (Nat.le_refl _) (Nat.le_of_ble_eq_true rfl) (c_X8_bale _ _ _ _ _ _ (by first | assumption | omega) (by first | assumption | omega)) (fun r177 hr177 hp177 => ?_)
                      subst hp177
                      rw [e2]
                      rw [e2] at hr177
                      refine z_bipush (pc' := 182) X dX8_spreads_180 rfl (by decide) ?_
                      refine z_icmp_lt (tgt := 203) (pc' := 185) X (by first | assumption | omega) (by first | assumption | omega) dX8_spreads_182 rfl (by decide) (fun c182 => ?_) (fun c182 => ?_)
                      · refine z_iinc (pc' := 206) X dX8_spreads_203 rfl (by decide) rfl rfl ?_
                        dsimp only [List.set]
                        refine z_goto (tgt := 156) X dX8_spreads_206 (by decide) ?_
                        refine ZP.wk (L' := [some (vR (ma 0)), some (vI _), some (vI _), none]) (And.intro rfl (And.intro rfl (And.intro rfl (trivial)))) ?_
                        exact ih156 _ _ _ (D ++ [sprB (moG (bs.map wetB)) D.length b]) t (by rw [List.length_append]; rfl) (by rw [List.append_assoc]; first | (rw [show sprB (moG (bs.map wetB)) D.length b = (b.1, b.2.1, b.2.2.1, -1) from if_pos (by omega)]; exact hb2.1) | (rw [show sprB (moG (bs.map wetB)) D.length b = b from if_neg (by omega)]; exact hb)) (by exact fun q hq => hok q (List.mem_cons_of_mem _ hq)) (by rw [List.append_assoc, ← hf, List.length_append]; rfl) (by rw [sprN_c] at hs; rw [List.length_append]; show _ + sprN _ (D.length + 1) t = _; first | (rw [show sprC (moG (bs.map wetB)) D.length b = 1 from if_pos (by omega)] at hs; omega) | (rw [show sprC (moG (bs.map wetB)) D.length b = 0 from if_neg (by omega)] at hs; omega)) (by rw [List.length_cons] at hl; rw [List.length_append]; exact ⟨by omega, by show D.length + 1 + _ ≤ 24; omega⟩) (by first | exact h6 | exact fun j a c => by rw [mset_r (by decide)]; exact h6 j a c) (by first | exact ho.tr hb2.2 | exact ho) (by exact fun q hq h7 => by first | exact (mset_r hq).trans (hr q hq h7) | exact hr q hq h7) (by rw [List.length_cons] at hN; omega)
                      · refine z_aload_n (pc' := 186) X dX8_spreads_185 rfl rfl ?_
                        refine z_iload_n (pc' := 187) X dX8_spreads_186 rfl rfl ?_
                        refine z_V_fun1 (pc' := 190) X rfl Y_X8_isNextToMouldy q2390 dX8_spreads_187 rfl (by decide) (Nat.le_refl _) (Nat.le_refl _) (Nat.le_of_ble_eq_true rfl) (c_X8_isNextToMouldy _ _ _ _ _ (by first | assumption | omega)) (fun r187 hr187 hp187 => ?_)
                        rw [hG1, hG2] at hp187
                        refine z_if_eq (tgt := 203) (pc' := 193) X (by first | assumption | omega) dX8_spreads_190 rfl (by decide) (fun c190 => ?_) (fun c190 => ?_)
                        · refine z_iinc (pc' := 206) X dX8_spreads_203 rfl (by decide) rfl rfl ?_
                          dsimp only [List.set]
                          refine z_goto (tgt := 156) X dX8_spreads_206 (by decide) ?_
                          refine ZP.wk (L' := [some (vR (ma 0)), some (vI _), some (vI _), none]) (And.intro rfl (And.intro rfl (And.intro rfl (trivial)))) ?_
                          exact ih156 _ _ _ (D ++ [sprB (moG (bs.map wetB)) D.length b]) t (by rw [List.length_append]; rfl) (by rw [List.append_assoc]; first | (rw [show sprB (moG (bs.map wetB)) D.length b = (b.1, b.2.1, b.2.2.1, -1) from if_pos (by omega)]; exact hb2.1) | (rw [show sprB (moG (bs.map wetB)) D.length b = b from if_neg (by omega)]; exact hb)) (by exact fun q hq => hok q (List.mem_cons_of_mem _ hq)) (by rw [List.append_assoc, ← hf, List.length_append]; rfl) (by rw [sprN_c] at hs; rw [List.length_append]; show _ + sprN _ (D.length + 1) t = _; first | (rw [show sprC (moG (bs.map wetB)) D.length b = 1 from if_pos (by omega)] at hs; omega) | (rw [show sprC (moG (bs.map wetB)) D.length b = 0 from if_neg (by omega)] at hs; omega)) (by rw [List.length_cons] at hl; rw [List.length_append]; exact ⟨by omega, by show D.length + 1 + _ ≤ 24; omega⟩) (by first | exact h6 | exact fun j a c => by rw [mset_r (by decide)]; exact h6 j a c) (by first | exact ho.tr hb2.2 | exact ho) (by exact fun q hq h7 => by first | exact (mset_r hq).trans (hr q hq h7) | exact hr q hq h7) (by rw [List.length_cons] at hN; omega)
                        · refine z_aload_n (pc' := 194) X dX8_spreads_193 rfl rfl ?_
                          refine z_iload_n (pc' := 195) X dX8_spreads_194 rfl rfl ?_
                          refine z_iconst (pc' := 196) X dX8_spreads_195 rfl ?_
                          refine z_iconst (pc' := 197) X dX8_spreads_196 rfl ?_
                          refine z_V_void3 (pc' := 200) X rfl Y_X8_lay q2162 dX8_spreads_197 rfl (by decide) (Nat.le_refl _) (Nat.le_refl _) (Nat.le_of_ble_eq_true rfl) (c_X8_lay _ _ _ _ _ _ _ (by first | assumption | omega) (by first | assumption | omega) (by first | assumption | omega)) (fun M197 hp197 hR197 => ?_)
                          subst hp197
                          have hb2 := hb.wet (z := -1)
                          refine z_iinc (pc' := 203) X dX8_spreads_200 rfl (by decide) rfl rfl ?_
                          dsimp only [List.set]
                          refine z_iinc (pc' := 206) X dX8_spreads_203 rfl (by decide) rfl rfl ?_
                          dsimp only [List.set]
                          refine z_goto (tgt := 156) X dX8_spreads_206 (by decide) ?_
                          refine ZP.wk (L' := [some (vR (ma 0)), some (vI _), some (vI _), none]) (And.intro rfl (And.intro rfl (And.intro rfl (trivial)))) ?_
                          exact ih156 _ _ _ (D ++ [sprB (moG (bs.map wetB)) D.length b]) t (by rw [List.length_append]; rfl) (by rw [List.append_assoc]; first | (rw [show sprB (moG (bs.map wetB)) D.length b = (b.1, b.2.1, b.2.2.1, -1) from if_pos (by omega)]; exact hb2.1) | (rw [show sprB (moG (bs.map wetB)) D.length b = b from if_neg (by omega)]; exact hb)) (by exact fun q hq => hok q (List.mem_cons_of_mem _ hq)) (by rw [List.append_assoc, ← hf, List.length_append]; rfl) (by rw [sprN_c] at hs; rw [List.length_append]; show _ + sprN _ (D.length + 1) t = _; first | (rw [show sprC (moG (bs.map wetB)) D.length b = 1 from if_pos (by omega)] at hs; omega) | (rw [show sprC (moG (bs.map wetB)) D.length b = 0 from if_neg (by omega)] at hs; omega)) (by rw [List.length_cons] at hl; rw [List.length_append]; exact ⟨by omega, by show D.length + 1 + _ ≤ 24; omega⟩) (by first | exact h6 | exact fun j a c => by rw [mset_r (by decide)]; exact h6 j a c) (by first | exact ho.tr hb2.2 | exact ho) (by exact fun q hq h7 => by first | exact (mset_r hq).trans (hr q hq h7) | exact hr q hq h7) (by rw [List.length_cons] at hN; omega)
              refine ZP.wk (L' := [some (vR (ma 0)), some (vI _), some (vI _), none]) (And.intro rfl (And.intro rfl (And.intro rfl (trivial)))) ?_
              exact loop156 _ _ _ _ [] (bs.map wetB) (by rfl) (by rw [mMoF_r (by decide)]; exact hb) (by exact hokw) (by rfl) (by rw [hs9]; rfl) (by exact ⟨by omega, by rw [List.length_nil, List.length_map]; omega⟩) (by exact fun j a c => mMoF_G hb ⟨a, c⟩) (by rw [mMoF_r (by decide)]; exact ho) (by exact fun q h1 h6 => by rw [mMoF_r h6]; exact hr q h1 h6) (Nat.lt_succ_self _)
            · refine z_aload_n (pc' := 114) X dX8_spreads_113 rfl rfl ?_
              refine z_mget (pc' := 117) X 7 rfl (by decide) q2070 rfl dX8_spreads_114 rfl ?_
              refine z_iload_n (pc' := 118) X dX8_spreads_117 rfl rfl ?_
              refine z_iload_n (pc' := 119) X dX8_spreads_118 rfl rfl ?_
              refine z_iconst (pc' := 120) X dX8_spreads_119 rfl ?_
              refine z_aload_n (pc' := 121) X dX8_spreads_120 rfl rfl ?_
              refine z_mget (pc' := 124) X 0 rfl (by decide) q2063 rfl dX8_spreads_121 rfl ?_
              refine z_iconst (pc' := 125) X dX8_spreads_124 rfl ?_
              refine z_mld (pc' := 126) X (r := 1) (by decide) (show 0 ≤ _ ∧ _ < (321 : Int) by omega) dX8_spreads_125 rfl (fun hv125 => ?_)
              have e124 : mMoF Mx k 1 4 = Mx 1 4 := by rw [mMoF_r (by decide)]
              rw [e124]
              rw [e124] at hv125
              refine z_S_fun3 (pc' := 129) X Y_X8_in q2123 dX8_spreads_126 rfl (by decide) (Nat.le_refl _) (Nat.le_refl _) (Nat.le_of_ble_eq_true rfl) (fun h _ => c_X8_in _ _ _ _ _ _ (by first | assumption | omega) (by first | assumption | omega) (by first | assumption | omega)) (fun r126 hr126 hp126 => ?_)
              refine z_if_eq (tgt := 146) (pc' := 132) X (by first | assumption | omega) dX8_spreads_129 rfl (by decide) (fun c129 => ?_) (fun c129 => ?_)
              · refine z_iconst (pc' := 147) X dX8_spreads_146 rfl ?_
                refine z_mst (pc' := 148) X (r := 6) (by decide) (show 0 ≤ _ ∧ _ < (26 : Int) by omega) (by first | assumption | omega) dX8_spreads_147 rfl (fun hR147 => ?_)
                refine z_iinc (pc' := 151) X dX8_spreads_148 rfl (by decide) rfl rfl ?_
                dsimp only [List.set]
                refine z_goto (tgt := 107) X dX8_spreads_151 (by decide) ?_
                rw [mMoF_s hk.1 (by first | rw [if_pos (by omega)] | rw [if_neg (by omega)])]
                refine ZP.wk (L' := [some (vR (ma 0)), some (vI s), some (vI _), none]) (And.intro rfl (And.intro rfl (And.intro rfl (trivial)))) ?_
                exact ih107 _ (by omega) (by omega)
              · refine z_aload_n (pc' := 133) X dX8_spreads_132 rfl rfl ?_
                refine z_iload_n (pc' := 134) X dX8_spreads_133 rfl rfl ?_
                refine z_iconst (pc' := 135) X dX8_spreads_134 rfl ?_
                refine z_isub (pc' := 136) X dX8_spreads_135 rfl ?_
                refine z_V_fun1 (pc' := 139) X rfl Y_X8_isMouldy q2232 dX8_spreads_136 rfl (by decide) (Nat.le_refl _) (Nat.le_refl _) (Nat.le_of_ble_eq_true rfl) (c_X8_isMouldy _ _ _ _ _ (by first | assumption | omega)) (fun r136 hr136 hp136 => ?_)
                have e136 : mB (mMoF Mx k) (k - 1) 3 = mB Mx (k - 1) 3 := by unfold mB; rw [mMoF_r (by decide)]
                rw [e136] at hp136
                refine z_if_eq (tgt := 146) (pc' := 142) X (by first | assumption | omega) dX8_spreads_139 rfl (by decide) (fun c139 => ?_) (fun c139 => ?_)
                · refine z_iconst (pc' := 147) X dX8_spreads_146 rfl ?_
                  refine z_mst (pc' := 148) X (r := 6) (by decide) (show 0 ≤ _ ∧ _ < (26 : Int) by omega) (by first | assumption | omega) dX8_spreads_147 rfl (fun hR147 => ?_)
                  refine z_iinc (pc' := 151) X dX8_spreads_148 rfl (by decide) rfl rfl ?_
                  dsimp only [List.set]
                  refine z_goto (tgt := 107) X dX8_spreads_151 (by decide) ?_
                  rw [mMoF_s hk.1 (by first | rw [if_pos (by omega)] | rw [if_neg (by omega)])]
                  refine ZP.wk (L' := [some (vR (ma 0)), some (vI s), some (vI _), none]) (And.intro rfl (And.intro rfl (And.intro rfl (trivial)))) ?_
                  exact ih107 _ (by omega) (by omega)
                · refine z_iconst (pc' := 143) X dX8_spreads_142 rfl ?_
                  refine z_goto (tgt := 147) X dX8_spreads_143 (by decide) ?_
                  refine z_mst (pc' := 148) X (r := 6) (by decide) (show 0 ≤ _ ∧ _ < (26 : Int) by omega) (by first | assumption | omega) dX8_spreads_147 rfl (fun hR147 => ?_)
                  refine z_iinc (pc' := 151) X dX8_spreads_148 rfl (by decide) rfl rfl ?_
                  dsimp only [List.set]
                  refine z_goto (tgt := 107) X dX8_spreads_151 (by decide) ?_
                  rw [mMoF_s hk.1 (by first | rw [if_pos (by omega)] | rw [if_neg (by omega)])]
                  refine ZP.wk (L' := [some (vR (ma 0)), some (vI s), some (vI _), none]) (And.intro rfl (And.intro rfl (And.intro rfl (trivial)))) ?_
                  exact ih107 _ (by omega) (by omega)
        rw [← mMoF_0 (M := Mx)]
        refine ZP.wk (L' := [some (vR (ma 0)), some (vI s), some (vI _), none]) (And.intro rfl (And.intro rfl (And.intro rfl (trivial)))) ?_
        exact loop107 _ _ (by omega) (Nat.lt_succ_self _)
      · obtain ⟨b, t, rfl⟩ := hb.cons rfl c11
        obtain ⟨⟨e0, e1, e2, e3⟩, hd1, hd2, hd3⟩ := hb.hd
        obtain ⟨k0, k1, k2, k3⟩ := hok b List.mem_cons_self
        refine z_aload_n (pc' := 15) X dX8_spreads_14 rfl rfl ?_
        refine z_iload_n (pc' := 16) X dX8_spreads_15 rfl rfl ?_
        refine z_V_fun1 (pc' := 19) X rfl Y_X8_isMouldy q2232 dX8_spreads_16 rfl (by decide) (Nat.le_refl _) (Nat.le_refl _) (Nat.le_of_ble_eq_true rfl) (c_X8_isMouldy _ _ _ _ _ (by first | assumption | omega)) (fun r16 hr16 hp16 => ?_)
        refine z_if_ne (tgt := 99) (pc' := 22) X (by first | assumption | omega) dX8_spreads_19 rfl (by decide) (fun c19 => ?_) (fun c19 => ?_)
        · have hC9 : wetC b = (if b.2.2.2 = -1 then 0 else if wetW b = 5 then 1 else 0) := rfl
          (first | rw [if_pos (by omega)] at hC9 | (rw [if_neg (by omega)] at hC9; first | rw [if_pos (by omega)] at hC9 | rw [if_neg (by omega)] at hC9))
          refine z_iinc (pc' := 102) X dX8_spreads_99 rfl (by decide) rfl rfl ?_
          dsimp only [List.set]
          refine z_goto (tgt := 4) X dX8_spreads_102 (by decide) ?_
          refine ZP.wk (L' := [some (vR (ma 0)), some (vI _), some (vI _), none]) (And.intro rfl (And.intro rfl (And.intro rfl (trivial)))) ?_
          exact ih4 _ _ _ (D ++ [wetB b]) t (by rw [List.length_append]; rfl) (by rw [List.append_assoc]; first | (exact hb3.1) | (rw [show wetB b = b from if_pos (by omega)]; exact hb)) (by exact fun q hq => hok q (List.mem_cons_of_mem _ hq)) (by rw [List.append_assoc, ← hf]; rfl) (by rw [wetN_c] at hs; have hC := hC9; omega) (by rw [List.length_cons] at hl; rw [List.length_append]; exact ⟨by omega, by show D.length + 1 + _ ≤ 24; omega⟩) (by first | exact (ho.tr hb2.2).tr hb3.2 | exact ho) (by exact fun q hq h6 => by first | exact (mset_r hq).trans ((mset_r hq).trans (hr q hq h6)) | exact hr q hq h6) (by rw [List.length_cons] at hN; omega)
        · refine z_aload_n (pc' := 23) X dX8_spreads_22 rfl rfl ?_
          refine z_iload_n (pc' := 24) X dX8_spreads_23 rfl rfl ?_
          refine z_iconst (pc' := 25) X dX8_spreads_24 rfl ?_
          refine z_aload_n (pc' := 26) X dX8_spreads_25 rfl rfl ?_
          refine z_iload_n (pc' := 27) X dX8_spreads_26 rfl rfl ?_
          refine z_iconst (pc' := 28) X dX8_spreads_27 rfl ?_
          refine z_V_fun2 (pc' := 31) X rfl Y_X8_bale q2194 dX8_spreads_28 rfl (by decide) (Nat.le_refl _) (Nat.le_refl _) (Nat.le_of_ble_eq_true rfl) (c_X8_bale _ _ _ _ _ _ (by first | assumption | omega) (by first | assumption | omega)) (fun r28 hr28 hp28 => ?_)
          subst hp28
          rw [e2]
          rw [e2] at hr28
          refine z_bipush (pc' := 33) X dX8_spreads_31 rfl (by decide) ?_
          refine z_icmp_lt (tgt := 47) (pc' := 36) X (by first | assumption | omega) (by first | assumption | omega) dX8_spreads_33 rfl (by decide) (fun c33 => ?_) (fun c33 => ?_)
          · refine z_iconst (pc' := 48) X dX8_spreads_47 rfl ?_
            refine ZP.top (a' := wetW b) (by unfold wetW; first | rw [if_pos (by omega)] | rw [if_neg (by omega)]) ?_
            have hWb : 0 ≤ wetW b ∧ wetW b ≤ 5 := by unfold wetW; split <;> omega
            have hb2 := hb.wet (z := wetW b)
            obtain ⟨⟨f0, f1, f2, f3⟩, -⟩ := hb2.1.hd
            refine z_V_void3 (pc' := 51) X rfl Y_X8_lay q2162 dX8_spreads_48 rfl (by decide) (Nat.le_refl _) (Nat.le_refl _) (Nat.le_of_ble_eq_true rfl) (c_X8_lay _ _ _ _ _ _ _ (by first | assumption | omega) (by first | assumption | omega) (by first | assumption | omega)) (fun M48 hp48 hR48 => ?_)
            subst hp48
            refine z_aload_n (pc' := 52) X dX8_spreads_51 rfl rfl ?_
            refine z_iload_n (pc' := 53) X dX8_spreads_52 rfl rfl ?_
            refine z_iconst (pc' := 54) X dX8_spreads_53 rfl ?_
            refine z_V_fun2 (pc' := 57) X rfl Y_X8_bale q2194 dX8_spreads_54 rfl (by decide) (Nat.le_refl _) (Nat.le_refl _) (Nat.le_of_ble_eq_true rfl) (c_X8_bale _ _ _ _ _ _ (by first | assumption | omega) (by first | assumption | omega)) (fun r54 hr54 hp54 => ?_)
            subst hp54
            rw [mB_s]
            rw [mB_s] at hr54
            refine z_iconst (pc' := 58) X dX8_spreads_57 rfl ?_
            refine z_icmp_ne (tgt := 65) (pc' := 61) X (by first | assumption | omega) (by first | assumption | omega) dX8_spreads_58 rfl (by decide) (fun c58 => ?_) (fun c58 => ?_)
            · refine z_iconst (pc' := 66) X dX8_spreads_65 rfl ?_
              refine z_istore_n (pc' := 67) X dX8_spreads_66 rfl (by decide) rfl ?_
              dsimp only [List.set]
              refine z_aload_n (pc' := 68) X dX8_spreads_67 rfl rfl ?_
              refine z_iload_n (pc' := 69) X dX8_spreads_68 rfl rfl ?_
              refine z_iconst (pc' := 70) X dX8_spreads_69 rfl ?_
              refine z_iload_n (pc' := 71) X dX8_spreads_70 rfl rfl ?_
              refine z_if_eq (tgt := 78) (pc' := 74) X (by first | assumption | omega) dX8_spreads_71 rfl (by decide) (fun c71 => ?_) (fun c71 => ?_)
              · refine z_aload_n (pc' := 79) X dX8_spreads_78 rfl rfl ?_
                refine z_iload_n (pc' := 80) X dX8_spreads_79 rfl rfl ?_
                refine z_iconst (pc' := 81) X dX8_spreads_80 rfl ?_
                refine z_V_fun2 (pc' := 84) X rfl Y_X8_bale q2194 dX8_spreads_81 rfl (by decide) (Nat.le_refl _) (Nat.le_refl _) (Nat.le_of_ble_eq_true rfl) (c_X8_bale _ _ _ _ _ _ (by first | assumption | omega) (by first | assumption | omega)) (fun r81 hr81 hp81 => ?_)
                subst hp81
                rw [mB_s]
                rw [mB_s] at hr81
                refine ZP.top (a' := (wetB b).2.2.2) (by first | (exfalso; omega) | (unfold wetB; rw [if_neg (by omega)]; dsimp only; first | rw [if_pos (by omega)] | rw [if_neg (by omega)])) ?_
                have hb3 := hb2.1.wet (z := (wetB b).2.2.2)
                rw [show ((b.1, b.2.1, b.2.2.1, wetW b) : Bl).1 = b.1 from rfl, show ((b.1, b.2.1, b.2.2.1, wetW b) : Bl).2.1 = b.2.1 from rfl, show ((b.1, b.2.1, b.2.2.1, wetW b) : Bl).2.2.1 = b.2.2.1 from rfl, show (b.1, b.2.1, b.2.2.1, (wetB b).2.2.2) = wetB b by unfold wetB; rw [if_neg (by omega)]] at hb3
                obtain ⟨-, -, -, g3⟩ := wetB_ok (b := b) ⟨k0, k1, k2, k3⟩
                refine z_V_void3 (pc' := 87) X rfl Y_X8_lay q2162 dX8_spreads_84 rfl (by decide) (Nat.le_refl _) (Nat.le_refl _) (Nat.le_of_ble_eq_true rfl) (c_X8_lay _ _ _ _ _ _ _ (by first | assumption | omega) (by first | assumption | omega) (by first | assumption | omega)) (fun M84 hp84 hR84 => ?_)
                subst hp84
                refine z_iload_n (pc' := 88) X dX8_spreads_87 rfl rfl ?_
                refine z_iload_n (pc' := 89) X dX8_spreads_88 rfl rfl ?_
                refine z_if_eq (tgt := 96) (pc' := 92) X (by first | assumption | omega) dX8_spreads_89 rfl (by decide) (fun c89 => ?_) (fun c89 => ?_)
                · refine z_iconst (pc' := 97) X dX8_spreads_96 rfl ?_
                  refine z_iadd (pc' := 98) X dX8_spreads_97 rfl ?_
                  refine z_istore_n (pc' := 99) X dX8_spreads_98 rfl (by decide) rfl ?_
                  dsimp only [List.set]
                  have hC9 : wetC b = (if b.2.2.2 = -1 then 0 else if wetW b = 5 then 1 else 0) := rfl
                  (first | rw [if_pos (by omega)] at hC9 | (rw [if_neg (by omega)] at hC9; first | rw [if_pos (by omega)] at hC9 | rw [if_neg (by omega)] at hC9))
                  refine z_iinc (pc' := 102) X dX8_spreads_99 rfl (by decide) rfl rfl ?_
                  dsimp only [List.set]
                  refine z_goto (tgt := 4) X dX8_spreads_102 (by decide) ?_
                  refine ZP.wk (L' := [some (vR (ma 0)), some (vI _), some (vI _), none]) (And.intro rfl (And.intro rfl (And.intro rfl (trivial)))) ?_
                  exact ih4 _ _ _ (D ++ [wetB b]) t (by rw [List.length_append]; rfl) (by rw [List.append_assoc]; first | (exact hb3.1) | (rw [show wetB b = b from if_pos (by omega)]; exact hb)) (by exact fun q hq => hok q (List.mem_cons_of_mem _ hq)) (by rw [List.append_assoc, ← hf]; rfl) (by rw [wetN_c] at hs; have hC := hC9; omega) (by rw [List.length_cons] at hl; rw [List.length_append]; exact ⟨by omega, by show D.length + 1 + _ ≤ 24; omega⟩) (by first | exact (ho.tr hb2.2).tr hb3.2 | exact ho) (by exact fun q hq h6 => by first | exact (mset_r hq).trans ((mset_r hq).trans (hr q hq h6)) | exact hr q hq h6) (by rw [List.length_cons] at hN; omega)
                · refine z_iconst (pc' := 93) X dX8_spreads_92 rfl ?_
                  refine z_goto (tgt := 97) X dX8_spreads_93 (by decide) ?_
                  refine z_iadd (pc' := 98) X dX8_spreads_97 rfl ?_
                  refine z_istore_n (pc' := 99) X dX8_spreads_98 rfl (by decide) rfl ?_
                  dsimp only [List.set]
                  have hC9 : wetC b = (if b.2.2.2 = -1 then 0 else if wetW b = 5 then 1 else 0) := rfl
                  (first | rw [if_pos (by omega)] at hC9 | (rw [if_neg (by omega)] at hC9; first | rw [if_pos (by omega)] at hC9 | rw [if_neg (by omega)] at hC9))
                  refine z_iinc (pc' := 102) X dX8_spreads_99 rfl (by decide) rfl rfl ?_
                  dsimp only [List.set]
                  refine z_goto (tgt := 4) X dX8_spreads_102 (by decide) ?_
                  refine ZP.wk (L' := [some (vR (ma 0)), some (vI _), some (vI _), none]) (And.intro rfl (And.intro rfl (And.intro rfl (trivial)))) ?_
                  exact ih4 _ _ _ (D ++ [wetB b]) t (by rw [List.length_append]; rfl) (by rw [List.append_assoc]; first | (exact hb3.1) | (rw [show wetB b = b from if_pos (by omega)]; exact hb)) (by exact fun q hq => hok q (List.mem_cons_of_mem _ hq)) (by rw [List.append_assoc, ← hf]; rfl) (by rw [wetN_c] at hs; have hC := hC9; omega) (by rw [List.length_cons] at hl; rw [List.length_append]; exact ⟨by omega, by show D.length + 1 + _ ≤ 24; omega⟩) (by first | exact (ho.tr hb2.2).tr hb3.2 | exact ho) (by exact fun q hq h6 => by first | exact (mset_r hq).trans ((mset_r hq).trans (hr q hq h6)) | exact hr q hq h6) (by rw [List.length_cons] at hN; omega)
              · refine z_iconst (pc' := 75) X dX8_spreads_74 rfl ?_
                refine z_goto (tgt := 84) X dX8_spreads_75 (by decide) ?_
                refine ZP.top (a' := (wetB b).2.2.2) (by first | (exfalso; omega) | (unfold wetB; rw [if_neg (by omega)]; dsimp only; first | rw [if_pos (by omega)] | rw [if_neg (by omega)])) ?_
                have hb3 := hb2.1.wet (z := (wetB b).2.2.2)
                rw [show ((b.1, b.2.1, b.2.2.1, wetW b) : Bl).1 = b.1 from rfl, show ((b.1, b.2.1, b.2.2.1, wetW b) : Bl).2.1 = b.2.1 from rfl, show ((b.1, b.2.1, b.2.2.1, wetW b) : Bl).2.2.1 = b.2.2.1 from rfl, show (b.1, b.2.1, b.2.2.1, (wetB b).2.2.2) = wetB b by unfold wetB; rw [if_neg (by omega)]] at hb3
                obtain ⟨-, -, -, g3⟩ := wetB_ok (b := b) ⟨k0, k1, k2, k3⟩
                refine z_V_void3 (pc' := 87) X rfl Y_X8_lay q2162 dX8_spreads_84 rfl (by decide) (Nat.le_refl _) (Nat.le_refl _) (Nat.le_of_ble_eq_true rfl) (c_X8_lay _ _ _ _ _ _ _ (by first | assumption | omega) (by first | assumption | omega) (by first | assumption | omega)) (fun M84 hp84 hR84 => ?_)
                subst hp84
                refine z_iload_n (pc' := 88) X dX8_spreads_87 rfl rfl ?_
                refine z_iload_n (pc' := 89) X dX8_spreads_88 rfl rfl ?_
                refine z_if_eq (tgt := 96) (pc' := 92) X (by first | assumption | omega) dX8_spreads_89 rfl (by decide) (fun c89 => ?_) (fun c89 => ?_)
                · refine z_iconst (pc' := 97) X dX8_spreads_96 rfl ?_
                  refine z_iadd (pc' := 98) X dX8_spreads_97 rfl ?_
                  refine z_istore_n (pc' := 99) X dX8_spreads_98 rfl (by decide) rfl ?_
                  dsimp only [List.set]
                  have hC9 : wetC b = (if b.2.2.2 = -1 then 0 else if wetW b = 5 then 1 else 0) := rfl
                  (first | rw [if_pos (by omega)] at hC9 | (rw [if_neg (by omega)] at hC9; first | rw [if_pos (by omega)] at hC9 | rw [if_neg (by omega)] at hC9))
                  refine z_iinc (pc' := 102) X dX8_spreads_99 rfl (by decide) rfl rfl ?_
                  dsimp only [List.set]
                  refine z_goto (tgt := 4) X dX8_spreads_102 (by decide) ?_
                  refine ZP.wk (L' := [some (vR (ma 0)), some (vI _), some (vI _), none]) (And.intro rfl (And.intro rfl (And.intro rfl (trivial)))) ?_
                  exact ih4 _ _ _ (D ++ [wetB b]) t (by rw [List.length_append]; rfl) (by rw [List.append_assoc]; first | (exact hb3.1) | (rw [show wetB b = b from if_pos (by omega)]; exact hb)) (by exact fun q hq => hok q (List.mem_cons_of_mem _ hq)) (by rw [List.append_assoc, ← hf]; rfl) (by rw [wetN_c] at hs; have hC := hC9; omega) (by rw [List.length_cons] at hl; rw [List.length_append]; exact ⟨by omega, by show D.length + 1 + _ ≤ 24; omega⟩) (by first | exact (ho.tr hb2.2).tr hb3.2 | exact ho) (by exact fun q hq h6 => by first | exact (mset_r hq).trans ((mset_r hq).trans (hr q hq h6)) | exact hr q hq h6) (by rw [List.length_cons] at hN; omega)
                · refine z_iconst (pc' := 93) X dX8_spreads_92 rfl ?_
                  refine z_goto (tgt := 97) X dX8_spreads_93 (by decide) ?_
                  refine z_iadd (pc' := 98) X dX8_spreads_97 rfl ?_
                  refine z_istore_n (pc' := 99) X dX8_spreads_98 rfl (by decide) rfl ?_
                  dsimp only [List.set]
                  have hC9 : wetC b = (if b.2.2.2 = -1 then 0 else if wetW b = 5 then 1 else 0) := rfl
                  (first | rw [if_pos (by omega)] at hC9 | (rw [if_neg (by omega)] at hC9; first | rw [if_pos (by omega)] at hC9 | rw [if_neg (by omega)] at hC9))
                  refine z_iinc (pc' := 102) X dX8_spreads_99 rfl (by decide) rfl rfl ?_
                  dsimp only [List.set]
                  refine z_goto (tgt := 4) X dX8_spreads_102 (by decide) ?_
                  refine ZP.wk (L' := [some (vR (ma 0)), some (vI _), some (vI _), none]) (And.intro rfl (And.intro rfl (And.intro rfl (trivial)))) ?_
                  exact ih4 _ _ _ (D ++ [wetB b]) t (by rw [List.length_append]; rfl) (by rw [List.append_assoc]; first | (exact hb3.1) | (rw [show wetB b = b from if_pos (by omega)]; exact hb)) (by exact fun q hq => hok q (List.mem_cons_of_mem _ hq)) (by rw [List.append_assoc, ← hf]; rfl) (by rw [wetN_c] at hs; have hC := hC9; omega) (by rw [List.length_cons] at hl; rw [List.length_append]; exact ⟨by omega, by show D.length + 1 + _ ≤ 24; omega⟩) (by first | exact (ho.tr hb2.2).tr hb3.2 | exact ho) (by exact fun q hq h6 => by first | exact (mset_r hq).trans ((mset_r hq).trans (hr q hq h6)) | exact hr q hq h6) (by rw [List.length_cons] at hN; omega)
            · refine z_iconst (pc' := 62) X dX8_spreads_61 rfl ?_
              refine z_goto (tgt := 66) X dX8_spreads_62 (by decide) ?_
              refine z_istore_n (pc' := 67) X dX8_spreads_66 rfl (by decide) rfl ?_
              dsimp only [List.set]
              refine z_aload_n (pc' := 68) X dX8_spreads_67 rfl rfl ?_
              refine z_iload_n (pc' := 69) X dX8_spreads_68 rfl rfl ?_
              refine z_iconst (pc' := 70) X dX8_spreads_69 rfl ?_
              refine z_iload_n (pc' := 71) X dX8_spreads_70 rfl rfl ?_
              refine z_if_eq (tgt := 78) (pc' := 74) X (by first | assumption | omega) dX8_spreads_71 rfl (by decide) (fun c71 => ?_) (fun c71 => ?_)
              · refine z_aload_n (pc' := 79) X dX8_spreads_78 rfl rfl ?_
                refine z_iload_n (pc' := 80) X dX8_spreads_79 rfl rfl ?_
                refine z_iconst (pc' := 81) X dX8_spreads_80 rfl ?_
                refine z_V_fun2 (pc' := 84) X rfl Y_X8_bale q2194 dX8_spreads_81 rfl (by decide) (Nat.le_refl _) (Nat.le_refl _) (Nat.le_of_ble_eq_true rfl) (c_X8_bale _ _ _ _ _ _ (by first | assumption | omega) (by first | assumption | omega)) (fun r81 hr81 hp81 => ?_)
                subst hp81
                rw [mB_s]
                rw [mB_s] at hr81
                refine ZP.top (a' := (wetB b).2.2.2) (by first | (exfalso; omega) | (unfold wetB; rw [if_neg (by omega)]; dsimp only; first | rw [if_pos (by omega)] | rw [if_neg (by omega)])) ?_
                have hb3 := hb2.1.wet (z := (wetB b).2.2.2)
                rw [show ((b.1, b.2.1, b.2.2.1, wetW b) : Bl).1 = b.1 from rfl, show ((b.1, b.2.1, b.2.2.1, wetW b) : Bl).2.1 = b.2.1 from rfl, show ((b.1, b.2.1, b.2.2.1, wetW b) : Bl).2.2.1 = b.2.2.1 from rfl, show (b.1, b.2.1, b.2.2.1, (wetB b).2.2.2) = wetB b by unfold wetB; rw [if_neg (by omega)]] at hb3
                obtain ⟨-, -, -, g3⟩ := wetB_ok (b := b) ⟨k0, k1, k2, k3⟩
                refine z_V_void3 (pc' := 87) X rfl Y_X8_lay q2162 dX8_spreads_84 rfl (by decide) (Nat.le_refl _) (Nat.le_refl _) (Nat.le_of_ble_eq_true rfl) (c_X8_lay _ _ _ _ _ _ _ (by first | assumption | omega) (by first | assumption | omega) (by first | assumption | omega)) (fun M84 hp84 hR84 => ?_)
                subst hp84
                refine z_iload_n (pc' := 88) X dX8_spreads_87 rfl rfl ?_
                refine z_iload_n (pc' := 89) X dX8_spreads_88 rfl rfl ?_
                refine z_if_eq (tgt := 96) (pc' := 92) X (by first | assumption | omega) dX8_spreads_89 rfl (by decide) (fun c89 => ?_) (fun c89 => ?_)
                · refine z_iconst (pc' := 97) X dX8_spreads_96 rfl ?_
                  refine z_iadd (pc' := 98) X dX8_spreads_97 rfl ?_
                  refine z_istore_n (pc' := 99) X dX8_spreads_98 rfl (by decide) rfl ?_
                  dsimp only [List.set]
                  have hC9 : wetC b = (if b.2.2.2 = -1 then 0 else if wetW b = 5 then 1 else 0) := rfl
                  (first | rw [if_pos (by omega)] at hC9 | (rw [if_neg (by omega)] at hC9; first | rw [if_pos (by omega)] at hC9 | rw [if_neg (by omega)] at hC9))
                  refine z_iinc (pc' := 102) X dX8_spreads_99 rfl (by decide) rfl rfl ?_
                  dsimp only [List.set]
                  refine z_goto (tgt := 4) X dX8_spreads_102 (by decide) ?_
                  refine ZP.wk (L' := [some (vR (ma 0)), some (vI _), some (vI _), none]) (And.intro rfl (And.intro rfl (And.intro rfl (trivial)))) ?_
                  exact ih4 _ _ _ (D ++ [wetB b]) t (by rw [List.length_append]; rfl) (by rw [List.append_assoc]; first | (exact hb3.1) | (rw [show wetB b = b from if_pos (by omega)]; exact hb)) (by exact fun q hq => hok q (List.mem_cons_of_mem _ hq)) (by rw [List.append_assoc, ← hf]; rfl) (by rw [wetN_c] at hs; have hC := hC9; omega) (by rw [List.length_cons] at hl; rw [List.length_append]; exact ⟨by omega, by show D.length + 1 + _ ≤ 24; omega⟩) (by first | exact (ho.tr hb2.2).tr hb3.2 | exact ho) (by exact fun q hq h6 => by first | exact (mset_r hq).trans ((mset_r hq).trans (hr q hq h6)) | exact hr q hq h6) (by rw [List.length_cons] at hN; omega)
                · refine z_iconst (pc' := 93) X dX8_spreads_92 rfl ?_
                  refine z_goto (tgt := 97) X dX8_spreads_93 (by decide) ?_
                  refine z_iadd (pc' := 98) X dX8_spreads_97 rfl ?_
                  refine z_istore_n (pc' := 99) X dX8_spreads_98 rfl (by decide) rfl ?_
                  dsimp only [List.set]
                  have hC9 : wetC b = (if b.2.2.2 = -1 then 0 else if wetW b = 5 then 1 else 0) := rfl
                  (first | rw [if_pos (by omega)] at hC9 | (rw [if_neg (by omega)] at hC9; first | rw [if_pos (by omega)] at hC9 | rw [if_neg (by omega)] at hC9))
                  refine z_iinc (pc' := 102) X dX8_spreads_99 rfl (by decide) rfl rfl ?_
                  dsimp only [List.set]
                  refine z_goto (tgt := 4) X dX8_spreads_102 (by decide) ?_
                  refine ZP.wk (L' := [some (vR (ma 0)), some (vI _), some (vI _), none]) (And.intro rfl (And.intro rfl (And.intro rfl (trivial)))) ?_
                  exact ih4 _ _ _ (D ++ [wetB b]) t (by rw [List.length_append]; rfl) (by rw [List.append_assoc]; first | (exact hb3.1) | (rw [show wetB b = b from if_pos (by omega)]; exact hb)) (by exact fun q hq => hok q (List.mem_cons_of_mem _ hq)) (by rw [List.append_assoc, ← hf]; rfl) (by rw [wetN_c] at hs; have hC := hC9; omega) (by rw [List.length_cons] at hl; rw [List.length_append]; exact ⟨by omega, by show D.length + 1 + _ ≤ 24; omega⟩) (by first | exact (ho.tr hb2.2).tr hb3.2 | exact ho) (by exact fun q hq h6 => by first | exact (mset_r hq).trans ((mset_r hq).trans (hr q hq h6)) | exact hr q hq h6) (by rw [List.length_cons] at hN; omega)
              · refine z_iconst (pc' := 75) X dX8_spreads_74 rfl ?_
                refine z_goto (tgt := 84) X dX8_spreads_75 (by decide) ?_
                refine ZP.top (a' := (wetB b).2.2.2) (by first | (exfalso; omega) | (unfold wetB; rw [if_neg (by omega)]; dsimp only; first | rw [if_pos (by omega)] | rw [if_neg (by omega)])) ?_
                have hb3 := hb2.1.wet (z := (wetB b).2.2.2)
                rw [show ((b.1, b.2.1, b.2.2.1, wetW b) : Bl).1 = b.1 from rfl, show ((b.1, b.2.1, b.2.2.1, wetW b) : Bl).2.1 = b.2.1 from rfl, show ((b.1, b.2.1, b.2.2.1, wetW b) : Bl).2.2.1 = b.2.2.1 from rfl, show (b.1, b.2.1, b.2.2.1, (wetB b).2.2.2) = wetB b by unfold wetB; rw [if_neg (by omega)]] at hb3
                obtain ⟨-, -, -, g3⟩ := wetB_ok (b := b) ⟨k0, k1, k2, k3⟩
                refine z_V_void3 (pc' := 87) X rfl Y_X8_lay q2162 dX8_spreads_84 rfl (by decide) (Nat.le_refl _) (Nat.le_refl _) (Nat.le_of_ble_eq_true rfl) (c_X8_lay _ _ _ _ _ _ _ (by first | assumption | omega) (by first | assumption | omega) (by first | assumption | omega)) (fun M84 hp84 hR84 => ?_)
                subst hp84
                refine z_iload_n (pc' := 88) X dX8_spreads_87 rfl rfl ?_
                refine z_iload_n (pc' := 89) X dX8_spreads_88 rfl rfl ?_
                refine z_if_eq (tgt := 96) (pc' := 92) X (by first | assumption | omega) dX8_spreads_89 rfl (by decide) (fun c89 => ?_) (fun c89 => ?_)
                · refine z_iconst (pc' := 97) X dX8_spreads_96 rfl ?_
                  refine z_iadd (pc' := 98) X dX8_spreads_97 rfl ?_
                  refine z_istore_n (pc' := 99) X dX8_spreads_98 rfl (by decide) rfl ?_
                  dsimp only [List.set]
                  have hC9 : wetC b = (if b.2.2.2 = -1 then 0 else if wetW b = 5 then 1 else 0) := rfl
                  (first | rw [if_pos (by omega)] at hC9 | (rw [if_neg (by omega)] at hC9; first | rw [if_pos (by omega)] at hC9 | rw [if_neg (by omega)] at hC9))
                  refine z_iinc (pc' := 102) X dX8_spreads_99 rfl (by decide) rfl rfl ?_
                  dsimp only [List.set]
                  refine z_goto (tgt := 4) X dX8_spreads_102 (by decide) ?_
                  refine ZP.wk (L' := [some (vR (ma 0)), some (vI _), some (vI _), none]) (And.intro rfl (And.intro rfl (And.intro rfl (trivial)))) ?_
                  exact ih4 _ _ _ (D ++ [wetB b]) t (by rw [List.length_append]; rfl) (by rw [List.append_assoc]; first | (exact hb3.1) | (rw [show wetB b = b from if_pos (by omega)]; exact hb)) (by exact fun q hq => hok q (List.mem_cons_of_mem _ hq)) (by rw [List.append_assoc, ← hf]; rfl) (by rw [wetN_c] at hs; have hC := hC9; omega) (by rw [List.length_cons] at hl; rw [List.length_append]; exact ⟨by omega, by show D.length + 1 + _ ≤ 24; omega⟩) (by first | exact (ho.tr hb2.2).tr hb3.2 | exact ho) (by exact fun q hq h6 => by first | exact (mset_r hq).trans ((mset_r hq).trans (hr q hq h6)) | exact hr q hq h6) (by rw [List.length_cons] at hN; omega)
                · refine z_iconst (pc' := 93) X dX8_spreads_92 rfl ?_
                  refine z_goto (tgt := 97) X dX8_spreads_93 (by decide) ?_
                  refine z_iadd (pc' := 98) X dX8_spreads_97 rfl ?_
                  refine z_istore_n (pc' := 99) X dX8_spreads_98 rfl (by decide) rfl ?_
                  dsimp only [List.set]
                  have hC9 : wetC b = (if b.2.2.2 = -1 then 0 else if wetW b = 5 then 1 else 0) := rfl
                  (first | rw [if_pos (by omega)] at hC9 | (rw [if_neg (by omega)] at hC9; first | rw [if_pos (by omega)] at hC9 | rw [if_neg (by omega)] at hC9))
                  refine z_iinc (pc' := 102) X dX8_spreads_99 rfl (by decide) rfl rfl ?_
                  dsimp only [List.set]
                  refine z_goto (tgt := 4) X dX8_spreads_102 (by decide) ?_
                  refine ZP.wk (L' := [some (vR (ma 0)), some (vI _), some (vI _), none]) (And.intro rfl (And.intro rfl (And.intro rfl (trivial)))) ?_
                  exact ih4 _ _ _ (D ++ [wetB b]) t (by rw [List.length_append]; rfl) (by rw [List.append_assoc]; first | (exact hb3.1) | (rw [show wetB b = b from if_pos (by omega)]; exact hb)) (by exact fun q hq => hok q (List.mem_cons_of_mem _ hq)) (by rw [List.append_assoc, ← hf]; rfl) (by rw [wetN_c] at hs; have hC := hC9; omega) (by rw [List.length_cons] at hl; rw [List.length_append]; exact ⟨by omega, by show D.length + 1 + _ ≤ 24; omega⟩) (by first | exact (ho.tr hb2.2).tr hb3.2 | exact ho) (by exact fun q hq h6 => by first | exact (mset_r hq).trans ((mset_r hq).trans (hr q hq h6)) | exact hr q hq h6) (by rw [List.length_cons] at hN; omega)
          · refine z_aload_n (pc' := 37) X dX8_spreads_36 rfl rfl ?_
            refine z_iload_n (pc' := 38) X dX8_spreads_37 rfl rfl ?_
            refine z_iconst (pc' := 39) X dX8_spreads_38 rfl ?_
            refine z_V_fun2 (pc' := 42) X rfl Y_X8_bale q2194 dX8_spreads_39 rfl (by decide) (Nat.le_refl _) (Nat.le_refl _) (Nat.le_of_ble_eq_true rfl) (c_X8_bale _ _ _ _ _ _ (by first | assumption | omega) (by first | assumption | omega)) (fun r39 hr39 hp39 => ?_)
            subst hp39
            rw [e3]
            rw [e3] at hr39
            refine z_iconst (pc' := 43) X dX8_spreads_42 rfl ?_
            refine z_iadd (pc' := 44) X dX8_spreads_43 rfl ?_
            refine z_goto (tgt := 48) X dX8_spreads_44 (by decide) ?_
            refine ZP.top (a' := wetW b) (by unfold wetW; first | rw [if_pos (by omega)] | rw [if_neg (by omega)]) ?_
            have hWb : 0 ≤ wetW b ∧ wetW b ≤ 5 := by unfold wetW; split <;> omega
            have hb2 := hb.wet (z := wetW b)
            obtain ⟨⟨f0, f1, f2, f3⟩, -⟩ := hb2.1.hd
            refine z_V_void3 (pc' := 51) X rfl Y_X8_lay q2162 dX8_spreads_48 rfl (by decide) (Nat.le_refl _) (Nat.le_refl _) (Nat.le_of_ble_eq_true rfl) (c_X8_lay _ _ _ _ _ _ _ (by first | assumption | omega) (by first | assumption | omega) (by first | assumption | omega)) (fun M48 hp48 hR48 => ?_)
            subst hp48
            refine z_aload_n (pc' := 52) X dX8_spreads_51 rfl rfl ?_
            refine z_iload_n (pc' := 53) X dX8_spreads_52 rfl rfl ?_
            refine z_iconst (pc' := 54) X dX8_spreads_53 rfl ?_
            refine z_V_fun2 (pc' := 57) X rfl Y_X8_bale q2194 dX8_spreads_54 rfl (by decide) (Nat.le_refl _) (Nat.le_refl _) (Nat.le_of_ble_eq_true rfl) (c_X8_bale _ _ _ _ _ _ (by first | assumption | omega) (by first | assumption | omega)) (fun r54 hr54 hp54 => ?_)
            subst hp54
            rw [mB_s]
            rw [mB_s] at hr54
            refine z_iconst (pc' := 58) X dX8_spreads_57 rfl ?_
            refine z_icmp_ne (tgt := 65) (pc' := 61) X (by first | assumption | omega) (by first | assumption | omega) dX8_spreads_58 rfl (by decide) (fun c58 => ?_) (fun c58 => ?_)
            · refine z_iconst (pc' := 66) X dX8_spreads_65 rfl ?_
              refine z_istore_n (pc' := 67) X dX8_spreads_66 rfl (by decide) rfl ?_
              dsimp only [List.set]
              refine z_aload_n (pc' := 68) X dX8_spreads_67 rfl rfl ?_
              refine z_iload_n (pc' := 69) X dX8_spreads_68 rfl rfl ?_
              refine z_iconst (pc' := 70) X dX8_spreads_69 rfl ?_
              refine z_iload_n (pc' := 71) X dX8_spreads_70 rfl rfl ?_
              refine z_if_eq (tgt := 78) (pc' := 74) X (by first | assumption | omega) dX8_spreads_71 rfl (by decide) (fun c71 => ?_) (fun c71 => ?_)
              · refine z_aload_n (pc' := 79) X dX8_spreads_78 rfl rfl ?_
                refine z_iload_n (pc' := 80) X dX8_spreads_79 rfl rfl ?_
                refine z_iconst (pc' := 81) X dX8_spreads_80 rfl ?_
                refine z_V_fun2 (pc' := 84) X rfl Y_X8_bale q2194 dX8_spreads_81 rfl (by decide) (Nat.le_refl _) (Nat.le_refl _) (Nat.le_of_ble_eq_true rfl) (c_X8_bale _ _ _ _ _ _ (by first | assumption | omega) (by first | assumption | omega)) (fun r81 hr81 hp81 => ?_)
                subst hp81
                rw [mB_s]
                rw [mB_s] at hr81
                refine ZP.top (a' := (wetB b).2.2.2) (by first | (exfalso; omega) | (unfold wetB; rw [if_neg (by omega)]; dsimp only; first | rw [if_pos (by omega)] | rw [if_neg (by omega)])) ?_
                have hb3 := hb2.1.wet (z := (wetB b).2.2.2)
                rw [show ((b.1, b.2.1, b.2.2.1, wetW b) : Bl).1 = b.1 from rfl, show ((b.1, b.2.1, b.2.2.1, wetW b) : Bl).2.1 = b.2.1 from rfl, show ((b.1, b.2.1, b.2.2.1, wetW b) : Bl).2.2.1 = b.2.2.1 from rfl, show (b.1, b.2.1, b.2.2.1, (wetB b).2.2.2) = wetB b by unfold wetB; rw [if_neg (by omega)]] at hb3
                obtain ⟨-, -, -, g3⟩ := wetB_ok (b := b) ⟨k0, k1, k2, k3⟩
                refine z_V_void3 (pc' := 87) X rfl Y_X8_lay q2162 dX8_spreads_84 rfl (by decide) (Nat.le_refl _) (Nat.le_refl _) (Nat.le_of_ble_eq_true rfl) (c_X8_lay _ _ _ _ _ _ _ (by first | assumption | omega) (by first | assumption | omega) (by first | assumption | omega)) (fun M84 hp84 hR84 => ?_)
                subst hp84
                refine z_iload_n (pc' := 88) X dX8_spreads_87 rfl rfl ?_
                refine z_iload_n (pc' := 89) X dX8_spreads_88 rfl rfl ?_
                refine z_if_eq (tgt := 96) (pc' := 92) X (by first | assumption | omega) dX8_spreads_89 rfl (by decide) (fun c89 => ?_) (fun c89 => ?_)
                · refine z_iconst (pc' := 97) X dX8_spreads_96 rfl ?_
                  refine z_iadd (pc' := 98) X dX8_spreads_97 rfl ?_
                  refine z_istore_n (pc' := 99) X dX8_spreads_98 rfl (by decide) rfl ?_
                  dsimp only [List.set]
                  have hC9 : wetC b = (if b.2.2.2 = -1 then 0 else if wetW b = 5 then 1 else 0) := rfl
                  (first | rw [if_pos (by omega)] at hC9 | (rw [if_neg (by omega)] at hC9; first | rw [if_pos (by omega)] at hC9 | rw [if_neg (by omega)] at hC9))
                  refine z_iinc (pc' := 102) X dX8_spreads_99 rfl (by decide) rfl rfl ?_
                  dsimp only [List.set]
                  refine z_goto (tgt := 4) X dX8_spreads_102 (by decide) ?_
                  refine ZP.wk (L' := [some (vR (ma 0)), some (vI _), some (vI _), none]) (And.intro rfl (And.intro rfl (And.intro rfl (trivial)))) ?_
                  exact ih4 _ _ _ (D ++ [wetB b]) t (by rw [List.length_append]; rfl) (by rw [List.append_assoc]; first | (exact hb3.1) | (rw [show wetB b = b from if_pos (by omega)]; exact hb)) (by exact fun q hq => hok q (List.mem_cons_of_mem _ hq)) (by rw [List.append_assoc, ← hf]; rfl) (by rw [wetN_c] at hs; have hC := hC9; omega) (by rw [List.length_cons] at hl; rw [List.length_append]; exact ⟨by omega, by show D.length + 1 + _ ≤ 24; omega⟩) (by first | exact (ho.tr hb2.2).tr hb3.2 | exact ho) (by exact fun q hq h6 => by first | exact (mset_r hq).trans ((mset_r hq).trans (hr q hq h6)) | exact hr q hq h6) (by rw [List.length_cons] at hN; omega)
                · refine z_iconst (pc' := 93) X dX8_spreads_92 rfl ?_
                  refine z_goto (tgt := 97) X dX8_spreads_93 (by decide) ?_
                  refine z_iadd (pc' := 98) X dX8_spreads_97 rfl ?_
                  refine z_istore_n (pc' := 99) X dX8_spreads_98 rfl (by decide) rfl ?_
                  dsimp only [List.set]
                  have hC9 : wetC b = (if b.2.2.2 = -1 then 0 else if wetW b = 5 then 1 else 0) := rfl
                  (first | rw [if_pos (by omega)] at hC9 | (rw [if_neg (by omega)] at hC9; first | rw [if_pos (by omega)] at hC9 | rw [if_neg (by omega)] at hC9))
                  refine z_iinc (pc' := 102) X dX8_spreads_99 rfl (by decide) rfl rfl ?_
                  dsimp only [List.set]
                  refine z_goto (tgt := 4) X dX8_spreads_102 (by decide) ?_
                  refine ZP.wk (L' := [some (vR (ma 0)), some (vI _), some (vI _), none]) (And.intro rfl (And.intro rfl (And.intro rfl (trivial)))) ?_
                  exact ih4 _ _ _ (D ++ [wetB b]) t (by rw [List.length_append]; rfl) (by rw [List.append_assoc]; first | (exact hb3.1) | (rw [show wetB b = b from if_pos (by omega)]; exact hb)) (by exact fun q hq => hok q (List.mem_cons_of_mem _ hq)) (by rw [List.append_assoc, ← hf]; rfl) (by rw [wetN_c] at hs; have hC := hC9; omega) (by rw [List.length_cons] at hl; rw [List.length_append]; exact ⟨by omega, by show D.length + 1 + _ ≤ 24; omega⟩) (by first | exact (ho.tr hb2.2).tr hb3.2 | exact ho) (by exact fun q hq h6 => by first | exact (mset_r hq).trans ((mset_r hq).trans (hr q hq h6)) | exact hr q hq h6) (by rw [List.length_cons] at hN; omega)
              · refine z_iconst (pc' := 75) X dX8_spreads_74 rfl ?_
                refine z_goto (tgt := 84) X dX8_spreads_75 (by decide) ?_
                refine ZP.top (a' := (wetB b).2.2.2) (by first | (exfalso; omega) | (unfold wetB; rw [if_neg (by omega)]; dsimp only; first | rw [if_pos (by omega)] | rw [if_neg (by omega)])) ?_
                have hb3 := hb2.1.wet (z := (wetB b).2.2.2)
                rw [show ((b.1, b.2.1, b.2.2.1, wetW b) : Bl).1 = b.1 from rfl, show ((b.1, b.2.1, b.2.2.1, wetW b) : Bl).2.1 = b.2.1 from rfl, show ((b.1, b.2.1, b.2.2.1, wetW b) : Bl).2.2.1 = b.2.2.1 from rfl, show (b.1, b.2.1, b.2.2.1, (wetB b).2.2.2) = wetB b by unfold wetB; rw [if_neg (by omega)]] at hb3
                obtain ⟨-, -, -, g3⟩ := wetB_ok (b := b) ⟨k0, k1, k2, k3⟩
                refine z_V_void3 (pc' := 87) X rfl Y_X8_lay q2162 dX8_spreads_84 rfl (by decide) (Nat.le_refl _) (Nat.le_refl _) (Nat.le_of_ble_eq_true rfl) (c_X8_lay _ _ _ _ _ _ _ (by first | assumption | omega) (by first | assumption | omega) (by first | assumption | omega)) (fun M84 hp84 hR84 => ?_)
                subst hp84
                refine z_iload_n (pc' := 88) X dX8_spreads_87 rfl rfl ?_
                refine z_iload_n (pc' := 89) X dX8_spreads_88 rfl rfl ?_
                refine z_if_eq (tgt := 96) (pc' := 92) X (by first | assumption | omega) dX8_spreads_89 rfl (by decide) (fun c89 => ?_) (fun c89 => ?_)
                · refine z_iconst (pc' := 97) X dX8_spreads_96 rfl ?_
                  refine z_iadd (pc' := 98) X dX8_spreads_97 rfl ?_
                  refine z_istore_n (pc' := 99) X dX8_spreads_98 rfl (by decide) rfl ?_
                  dsimp only [List.set]
                  have hC9 : wetC b = (if b.2.2.2 = -1 then 0 else if wetW b = 5 then 1 else 0) := rfl
                  (first | rw [if_pos (by omega)] at hC9 | (rw [if_neg (by omega)] at hC9; first | rw [if_pos (by omega)] at hC9 | rw [if_neg (by omega)] at hC9))
                  refine z_iinc (pc' := 102) X dX8_spreads_99 rfl (by decide) rfl rfl ?_
                  dsimp only [List.set]
                  refine z_goto (tgt := 4) X dX8_spreads_102 (by decide) ?_
                  refine ZP.wk (L' := [some (vR (ma 0)), some (vI _), some (vI _), none]) (And.intro rfl (And.intro rfl (And.intro rfl (trivial)))) ?_
                  exact ih4 _ _ _ (D ++ [wetB b]) t (by rw [List.length_append]; rfl) (by rw [List.append_assoc]; first | (exact hb3.1) | (rw [show wetB b = b from if_pos (by omega)]; exact hb)) (by exact fun q hq => hok q (List.mem_cons_of_mem _ hq)) (by rw [List.append_assoc, ← hf]; rfl) (by rw [wetN_c] at hs; have hC := hC9; omega) (by rw [List.length_cons] at hl; rw [List.length_append]; exact ⟨by omega, by show D.length + 1 + _ ≤ 24; omega⟩) (by first | exact (ho.tr hb2.2).tr hb3.2 | exact ho) (by exact fun q hq h6 => by first | exact (mset_r hq).trans ((mset_r hq).trans (hr q hq h6)) | exact hr q hq h6) (by rw [List.length_cons] at hN; omega)
                · refine z_iconst (pc' := 93) X dX8_spreads_92 rfl ?_
                  refine z_goto (tgt := 97) X dX8_spreads_93 (by decide) ?_
                  refine z_iadd (pc' := 98) X dX8_spreads_97 rfl ?_
                  refine z_istore_n (pc' := 99) X dX8_spreads_98 rfl (by decide) rfl ?_
                  dsimp only [List.set]
                  have hC9 : wetC b = (if b.2.2.2 = -1 then 0 else if wetW b = 5 then 1 else 0) := rfl
                  (first | rw [if_pos (by omega)] at hC9 | (rw [if_neg (by omega)] at hC9; first | rw [if_pos (by omega)] at hC9 | rw [if_neg (by omega)] at hC9))
                  refine z_iinc (pc' := 102) X dX8_spreads_99 rfl (by decide) rfl rfl ?_
                  dsimp only [List.set]
                  refine z_goto (tgt := 4) X dX8_spreads_102 (by decide) ?_
                  refine ZP.wk (L' := [some (vR (ma 0)), some (vI _), some (vI _), none]) (And.intro rfl (And.intro rfl (And.intro rfl (trivial)))) ?_
                  exact ih4 _ _ _ (D ++ [wetB b]) t (by rw [List.length_append]; rfl) (by rw [List.append_assoc]; first | (exact hb3.1) | (rw [show wetB b = b from if_pos (by omega)]; exact hb)) (by exact fun q hq => hok q (List.mem_cons_of_mem _ hq)) (by rw [List.append_assoc, ← hf]; rfl) (by rw [wetN_c] at hs; have hC := hC9; omega) (by rw [List.length_cons] at hl; rw [List.length_append]; exact ⟨by omega, by show D.length + 1 + _ ≤ 24; omega⟩) (by first | exact (ho.tr hb2.2).tr hb3.2 | exact ho) (by exact fun q hq h6 => by first | exact (mset_r hq).trans ((mset_r hq).trans (hr q hq h6)) | exact hr q hq h6) (by rw [List.length_cons] at hN; omega)
            · refine z_iconst (pc' := 62) X dX8_spreads_61 rfl ?_
              refine z_goto (tgt := 66) X dX8_spreads_62 (by decide) ?_
              refine z_istore_n (pc' := 67) X dX8_spreads_66 rfl (by decide) rfl ?_
              dsimp only [List.set]
              refine z_aload_n (pc' := 68) X dX8_spreads_67 rfl rfl ?_
              refine z_iload_n (pc' := 69) X dX8_spreads_68 rfl rfl ?_
              refine z_iconst (pc' := 70) X dX8_spreads_69 rfl ?_
              refine z_iload_n (pc' := 71) X dX8_spreads_70 rfl rfl ?_
              refine z_if_eq (tgt := 78) (pc' := 74) X (by first | assumption | omega) dX8_spreads_71 rfl (by decide) (fun c71 => ?_) (fun c71 => ?_)
              · refine z_aload_n (pc' := 79) X dX8_spreads_78 rfl rfl ?_
                refine z_iload_n (pc' := 80) X dX8_spreads_79 rfl rfl ?_
                refine z_iconst (pc' := 81) X dX8_spreads_80 rfl ?_
                refine z_V_fun2 (pc' := 84) X rfl Y_X8_bale q2194 dX8_spreads_81 rfl (by decide) (Nat.le_refl _) (Nat.le_refl _) (Nat.le_of_ble_eq_true rfl) (c_X8_bale _ _ _ _ _ _ (by first | assumption | omega) (by first | assumption | omega)) (fun r81 hr81 hp81 => ?_)
                subst hp81
                rw [mB_s]
                rw [mB_s] at hr81
                refine ZP.top (a' := (wetB b).2.2.2) (by first | (exfalso; omega) | (unfold wetB; rw [if_neg (by omega)]; dsimp only; first | rw [if_pos (by omega)] | rw [if_neg (by omega)])) ?_
                have hb3 := hb2.1.wet (z := (wetB b).2.2.2)
                rw [show ((b.1, b.2.1, b.2.2.1, wetW b) : Bl).1 = b.1 from rfl, show ((b.1, b.2.1, b.2.2.1, wetW b) : Bl).2.1 = b.2.1 from rfl, show ((b.1, b.2.1, b.2.2.1, wetW b) : Bl).2.2.1 = b.2.2.1 from rfl, show (b.1, b.2.1, b.2.2.1, (wetB b).2.2.2) = wetB b by unfold wetB; rw [if_neg (by omega)]] at hb3
                obtain ⟨-, -, -, g3⟩ := wetB_ok (b := b) ⟨k0, k1, k2, k3⟩
                refine z_V_void3 (pc' := 87) X rfl Y_X8_lay q2162 dX8_spreads_84 rfl (by decide) (Nat.le_refl _) (Nat.le_refl _) (Nat.le_of_ble_eq_true rfl) (c_X8_lay _ _ _ _ _ _ _ (by first | assumption | omega) (by first | assumption | omega) (by first | assumption | omega)) (fun M84 hp84 hR84 => ?_)
                subst hp84
                refine z_iload_n (pc' := 88) X dX8_spreads_87 rfl rfl ?_
                refine z_iload_n (pc' := 89) X dX8_spreads_88 rfl rfl ?_
                refine z_if_eq (tgt := 96) (pc' := 92) X (by first | assumption | omega) dX8_spreads_89 rfl (by decide) (fun c89 => ?_) (fun c89 => ?_)
                · refine z_iconst (pc' := 97) X dX8_spreads_96 rfl ?_
                  refine z_iadd (pc' := 98) X dX8_spreads_97 rfl ?_
                  refine z_istore_n (pc' := 99) X dX8_spreads_98 rfl (by decide) rfl ?_
                  dsimp only [List.set]
                  have hC9 : wetC b = (if b.2.2.2 = -1 then 0 else if wetW b = 5 then 1 else 0) := rfl
                  (first | rw [if_pos (by omega)] at hC9 | (rw [if_neg (by omega)] at hC9; first | rw [if_pos (by omega)] at hC9 | rw [if_neg (by omega)] at hC9))
                  refine z_iinc (pc' := 102) X dX8_spreads_99 rfl (by decide) rfl rfl ?_
                  dsimp only [List.set]
                  refine z_goto (tgt := 4) X dX8_spreads_102 (by decide) ?_
                  refine ZP.wk (L' := [some (vR (ma 0)), some (vI _), some (vI _), none]) (And.intro rfl (And.intro rfl (And.intro rfl (trivial)))) ?_
                  exact ih4 _ _ _ (D ++ [wetB b]) t (by rw [List.length_append]; rfl) (by rw [List.append_assoc]; first | (exact hb3.1) | (rw [show wetB b = b from if_pos (by omega)]; exact hb)) (by exact fun q hq => hok q (List.mem_cons_of_mem _ hq)) (by rw [List.append_assoc, ← hf]; rfl) (by rw [wetN_c] at hs; have hC := hC9; omega) (by rw [List.length_cons] at hl; rw [List.length_append]; exact ⟨by omega, by show D.length + 1 + _ ≤ 24; omega⟩) (by first | exact (ho.tr hb2.2).tr hb3.2 | exact ho) (by exact fun q hq h6 => by first | exact (mset_r hq).trans ((mset_r hq).trans (hr q hq h6)) | exact hr q hq h6) (by rw [List.length_cons] at hN; omega)
                · refine z_iconst (pc' := 93) X dX8_spreads_92 rfl ?_
                  refine z_goto (tgt := 97) X dX8_spreads_93 (by decide) ?_
                  refine z_iadd (pc' := 98) X dX8_spreads_97 rfl ?_
                  refine z_istore_n (pc' := 99) X dX8_spreads_98 rfl (by decide) rfl ?_
                  dsimp only [List.set]
                  have hC9 : wetC b = (if b.2.2.2 = -1 then 0 else if wetW b = 5 then 1 else 0) := rfl
                  (first | rw [if_pos (by omega)] at hC9 | (rw [if_neg (by omega)] at hC9; first | rw [if_pos (by omega)] at hC9 | rw [if_neg (by omega)] at hC9))
                  refine z_iinc (pc' := 102) X dX8_spreads_99 rfl (by decide) rfl rfl ?_
                  dsimp only [List.set]
                  refine z_goto (tgt := 4) X dX8_spreads_102 (by decide) ?_
                  refine ZP.wk (L' := [some (vR (ma 0)), some (vI _), some (vI _), none]) (And.intro rfl (And.intro rfl (And.intro rfl (trivial)))) ?_
                  exact ih4 _ _ _ (D ++ [wetB b]) t (by rw [List.length_append]; rfl) (by rw [List.append_assoc]; first | (exact hb3.1) | (rw [show wetB b = b from if_pos (by omega)]; exact hb)) (by exact fun q hq => hok q (List.mem_cons_of_mem _ hq)) (by rw [List.append_assoc, ← hf]; rfl) (by rw [wetN_c] at hs; have hC := hC9; omega) (by rw [List.length_cons] at hl; rw [List.length_append]; exact ⟨by omega, by show D.length + 1 + _ ≤ 24; omega⟩) (by first | exact (ho.tr hb2.2).tr hb3.2 | exact ho) (by exact fun q hq h6 => by first | exact (mset_r hq).trans ((mset_r hq).trans (hr q hq h6)) | exact hr q hq h6) (by rw [List.length_cons] at hN; omega)
              · refine z_iconst (pc' := 75) X dX8_spreads_74 rfl ?_
                refine z_goto (tgt := 84) X dX8_spreads_75 (by decide) ?_
                refine ZP.top (a' := (wetB b).2.2.2) (by first | (exfalso; omega) | (unfold wetB; rw [if_neg (by omega)]; dsimp only; first | rw [if_pos (by omega)] | rw [if_neg (by omega)])) ?_
                have hb3 := hb2.1.wet (z := (wetB b).2.2.2)
                rw [show ((b.1, b.2.1, b.2.2.1, wetW b) : Bl).1 = b.1 from rfl, show ((b.1, b.2.1, b.2.2.1, wetW b) : Bl).2.1 = b.2.1 from rfl, show ((b.1, b.2.1, b.2.2.1, wetW b) : Bl).2.2.1 = b.2.2.1 from rfl, show (b.1, b.2.1, b.2.2.1, (wetB b).2.2.2) = wetB b by unfold wetB; rw [if_neg (by omega)]] at hb3
                obtain ⟨-, -, -, g3⟩ := wetB_ok (b := b) ⟨k0, k1, k2, k3⟩
                refine z_V_void3 (pc' := 87) X rfl Y_X8_lay q2162 dX8_spreads_84 rfl (by decide) (Nat.le_refl _) (Nat.le_refl _) (Nat.le_of_ble_eq_true rfl) (c_X8_lay _ _ _ _ _ _ _ (by first | assumption | omega) (by first | assumption | omega) (by first | assumption | omega)) (fun M84 hp84 hR84 => ?_)
                subst hp84
                refine z_iload_n (pc' := 88) X dX8_spreads_87 rfl rfl ?_
                refine z_iload_n (pc' := 89) X dX8_spreads_88 rfl rfl ?_
                refine z_if_eq (tgt := 96) (pc' := 92) X (by first | assumption | omega) dX8_spreads_89 rfl (by decide) (fun c89 => ?_) (fun c89 => ?_)
                · refine z_iconst (pc' := 97) X dX8_spreads_96 rfl ?_
                  refine z_iadd (pc' := 98) X dX8_spreads_97 rfl ?_
                  refine z_istore_n (pc' := 99) X dX8_spreads_98 rfl (by decide) rfl ?_
                  dsimp only [List.set]
                  have hC9 : wetC b = (if b.2.2.2 = -1 then 0 else if wetW b = 5 then 1 else 0) := rfl
                  (first | rw [if_pos (by omega)] at hC9 | (rw [if_neg (by omega)] at hC9; first | rw [if_pos (by omega)] at hC9 | rw [if_neg (by omega)] at hC9))
                  refine z_iinc (pc' := 102) X dX8_spreads_99 rfl (by decide) rfl rfl ?_
                  dsimp only [List.set]
                  refine z_goto (tgt := 4) X dX8_spreads_102 (by decide) ?_
                  refine ZP.wk (L' := [some (vR (ma 0)), some (vI _), some (vI _), none]) (And.intro rfl (And.intro rfl (And.intro rfl (trivial)))) ?_
                  exact ih4 _ _ _ (D ++ [wetB b]) t (by rw [List.length_append]; rfl) (by rw [List.append_assoc]; first | (exact hb3.1) | (rw [show wetB b = b from if_pos (by omega)]; exact hb)) (by exact fun q hq => hok q (List.mem_cons_of_mem _ hq)) (by rw [List.append_assoc, ← hf]; rfl) (by rw [wetN_c] at hs; have hC := hC9; omega) (by rw [List.length_cons] at hl; rw [List.length_append]; exact ⟨by omega, by show D.length + 1 + _ ≤ 24; omega⟩) (by first | exact (ho.tr hb2.2).tr hb3.2 | exact ho) (by exact fun q hq h6 => by first | exact (mset_r hq).trans ((mset_r hq).trans (hr q hq h6)) | exact hr q hq h6) (by rw [List.length_cons] at hN; omega)
                · refine z_iconst (pc' := 93) X dX8_spreads_92 rfl ?_
                  refine z_goto (tgt := 97) X dX8_spreads_93 (by decide) ?_
                  refine z_iadd (pc' := 98) X dX8_spreads_97 rfl ?_
                  refine z_istore_n (pc' := 99) X dX8_spreads_98 rfl (by decide) rfl ?_
                  dsimp only [List.set]
                  have hC9 : wetC b = (if b.2.2.2 = -1 then 0 else if wetW b = 5 then 1 else 0) := rfl
                  (first | rw [if_pos (by omega)] at hC9 | (rw [if_neg (by omega)] at hC9; first | rw [if_pos (by omega)] at hC9 | rw [if_neg (by omega)] at hC9))
                  refine z_iinc (pc' := 102) X dX8_spreads_99 rfl (by decide) rfl rfl ?_
                  dsimp only [List.set]
                  refine z_goto (tgt := 4) X dX8_spreads_102 (by decide) ?_
                  refine ZP.wk (L' := [some (vR (ma 0)), some (vI _), some (vI _), none]) (And.intro rfl (And.intro rfl (And.intro rfl (trivial)))) ?_
                  exact ih4 _ _ _ (D ++ [wetB b]) t (by rw [List.length_append]; rfl) (by rw [List.append_assoc]; first | (exact hb3.1) | (rw [show wetB b = b from if_pos (by omega)]; exact hb)) (by exact fun q hq => hok q (List.mem_cons_of_mem _ hq)) (by rw [List.append_assoc, ← hf]; rfl) (by rw [wetN_c] at hs; have hC := hC9; omega) (by rw [List.length_cons] at hl; rw [List.length_append]; exact ⟨by omega, by show D.length + 1 + _ ≤ 24; omega⟩) (by first | exact (ho.tr hb2.2).tr hb3.2 | exact ho) (by exact fun q hq h6 => by first | exact (mset_r hq).trans ((mset_r hq).trans (hr q hq h6)) | exact hr q hq h6) (by rw [List.length_cons] at hN; omega)
  refine ZP.wk (L' := [some (vR (ma 0)), some (vI _), some (vI _), none]) (And.intro rfl (And.intro rfl (And.intro rfl (trivial)))) ?_
  exact loop4 _ _ _ _ [] bs (by rfl) (by exact hb0) (by exact hok0) (by rfl) (by exact Int.zero_add _) (by exact ⟨Int.le_refl _, by rw [List.length_nil]; omega⟩) (by exact bO.rf) (by exact fun _ _ _ => rfl) (Nat.lt_succ_self _)
end M5

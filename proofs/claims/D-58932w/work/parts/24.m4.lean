/-! THE MODEL: bales beaten, dried, rotting; piles packed -/
section M4
def okB (b : Bl) : Prop := (0 ≤ b.1 ∧ b.1 ≤ 3) ∧ (0 ≤ b.2.1 ∧ b.2.1 ≤ 300) ∧ (0 ≤ b.2.2.1 ∧ b.2.2.1 ≤ 99) ∧ (-1 ≤ b.2.2.2 ∧ b.2.2.2 ≤ 4)
def okP (b : Pl) : Prop := (0 ≤ b.1 ∧ b.1 ≤ 9) ∧ (0 ≤ b.2.1 ∧ b.2.1 ≤ 2) ∧ (0 ≤ b.2.2.1 ∧ b.2.2.1 ≤ 2) ∧ (0 ≤ b.2.2.2.1 ∧ b.2.2.2.1 ≤ 480) ∧ (0 ≤ b.2.2.2.2 ∧ b.2.2.2.2 ≤ 2000)
theorem bRep.ok {N : Int → Int} {bs : List Bl} (h : bRep N bs) (hN : okN N) : ∀ b ∈ bs, okB b := by
  intro b hb
  obtain ⟨i, hi⟩ := List.getElem?_of_mem hb
  obtain ⟨e0, e1, e2, e3⟩ := h.2.2 i b hi
  have hl : i < bs.length := (List.getElem?_eq_some_iff.mp hi).1
  have h2 := h.2.1
  have h9 := h.1
  have h3 := hN.2.2.2.2.1 i (by omega) (by omega)
  rw [e0, e1, e2, e3] at h3
  exact h3
theorem pRep.ok {N : Int → Int} {bs : List Pl} (h : pRep N bs) (hN : okN N) : ∀ b ∈ bs, okP b := by
  intro b hb
  obtain ⟨i, hi⟩ := List.getElem?_of_mem hb
  obtain ⟨e0, e1, e2, e3, e4⟩ := h.2.2 i b hi
  have hl : i < bs.length := (List.getElem?_eq_some_iff.mp hi).1
  have h2 := h.2.1
  have h9 := h.1
  have h3 := hN.2.2.2.2.2.2.2.1 i (by omega) (by omega)
  rw [e0, e1, e2, e3, e4] at h3
  exact h3
theorem mB_r {M : MM} {r : Nat} {k z p w : Int} (h : r ≠ 1) : mB (mset M r k z) p w = mB M p w := by
  unfold mB
  rw [mset_r (Ne.symm h)]
theorem mB_s {M : MM} {p w z : Int} : mB (mset M 1 (21 + 4 * p + w) z) p w = z := mset_s
theorem mB_n {M : MM} {p w p' w' z : Int} (h : 21 + 4 * p + w ≠ 21 + 4 * p' + w') : mB (mset M 1 (21 + 4 * p' + w') z) p w = mB M p w := mset_k h
theorem mP_s {M : MM} {p w z : Int} : mP (mset M 1 (141 + 5 * p + w) z) p w = z := mset_s
def beatX (p : Int → Int) (b : Bl) : Int := if b.2.2.2 = -1 then 0 else min (p b.1) b.2.1
def beatL : (Int → Int) → List Bl → List Bl
  | _, [] => []
  | p, b :: t => if b.2.1 - beatX p b = 0 then beatL (iup p b.1 (p b.1 - beatX p b)) t else (b.1, b.2.1 - beatX p b, b.2.2.1, b.2.2.2) :: beatL (iup p b.1 (p b.1 - beatX p b)) t
def strn (s : Int) : Int := if s = 0 then 50 else if s = 1 then 30 else if s = 2 then 60 else 10
theorem strn_b (s : Int) : 10 ≤ strn s ∧ strn s ≤ 60 := by
  unfold strn
  (repeat' split) <;> omega
theorem mSh_b {M : MM} (h : mI M) {all j : Int} (ha : 1 ≤ all ∧ all ≤ 200) (hj : 0 ≤ j ∧ j < 4) : mShB M all 4 5 j = mShare (M 1) all j ∧ 0 ≤ mShB M all 4 5 j ∧ mShB M all 4 5 j ≤ 201 := by
  have h1 := mQuo_b h ha hj
  have e : mShB M all 4 5 j = mShare (M 1) all j := by
    unfold mShB
    rw [if_pos ⟨rfl, hj⟩, if_pos hj.2]
  rw [e]
  refine ⟨rfl, ?_⟩
  unfold mShare
  split <;> omega
theorem mShB_r {M : MM} {all : Int} {r : Nat} (h : r ≠ 5) : mShB M all 4 r = M r := by
  funext j
  exact if_neg (fun q => h q.1)
def rotX (b : Bl) : Int := if b.2.2.2 = -1 then (b.2.1 + 9) / 10 else 0
def rotL : List Bl → List Bl
  | [] => []
  | b :: t => if b.2.1 - rotX b = 0 then rotL t else (b.1, b.2.1 - rotX b, b.2.2.1, b.2.2.2) :: rotL t
def rotN : List Bl → Int
  | [] => 0
  | b :: t => rotX b + rotN t
theorem rotL_c {b : Bl} {t : List Bl} : rotL (b :: t) = if b.2.1 - rotX b = 0 then rotL t else (b.1, b.2.1 - rotX b, b.2.2.1, b.2.2.2) :: rotL t := rfl
theorem rotN_c {b : Bl} {t : List Bl} : rotN (b :: t) = rotX b + rotN t := rfl
theorem rotN_b {bs : List Bl} (h : ∀ b ∈ bs, okB b) : 0 ≤ rotN bs ∧ rotN bs ≤ 300 * bs.length := by
  induction bs with
  | nil => exact ⟨Int.le_refl _, Int.le_refl _⟩
  | cons b t ih =>
    have h1 := ih (fun q hq => h q (List.mem_cons_of_mem _ hq))
    obtain ⟨-, k1, -, -⟩ := h b List.mem_cons_self
    have h2 : 0 ≤ rotX b ∧ rotX b ≤ 300 := by unfold rotX; split <;> omega
    unfold rotN
    rw [List.length_cons]
    omega
theorem ZP.top {C : ZC} {nL : Nat} {Φ : GH → Prop} {k n : Nat} {L : List (Option Value)} {pc : Nat} {st : List Value} {a a' : Int} (h : a = a') (kk : ZP C nL Φ k n L pc (vI a' :: st)) : ZP C nL Φ k n L pc (vI a :: st) := by
  rw [h]
  exact kk
theorem Y_X8_rots : zYV yX8_rots cX8_rots 4 (some .int) 0 := ⟨⟨q2396, qs87, q132, q2397⟩, by decide +kernel, by decide⟩
set_option maxRecDepth 100000 in
theorem c_X8_rots (l : Launch) (g : zG) (ma : Nat → Nat) (M : MM) (bs : List Bl) (hb0 : bRep (M 1) bs) (hok0 : ∀ b ∈ bs, okB b) : mInt l yX8_rots cX8_rots 4 (some .int) 4 [vR (ma 0)] g ma M (fun r M' => r = rotN bs ∧ bRep (M' 1) (rotL bs) ∧ bO (M 1) (M' 1) ∧ ∀ q, q ≠ 1 → M' q = M q) := by
  refine mInt.mk (L0 := [some (vR (ma 0)), none, none, none]) (by decide) rfl (Nat.le_of_ble_eq_true rfl) rfl (fun C h hg hl hR X => ?_)
  subst hg hl
  have hlen := hb0.2.1
  have hrn := rotN_b hok0
  refine z_iconst (pc' := 1) X dX8_rots_0 rfl ?_
  refine z_istore_n (pc' := 2) X dX8_rots_1 rfl (by decide) rfl ?_
  dsimp only [List.set]
  refine z_iconst (pc' := 3) X dX8_rots_2 rfl ?_
  refine z_istore_n (pc' := 4) X dX8_rots_3 rfl (by decide) rfl ?_
  dsimp only [List.set]
  have loop4 : ∀ (N : Nat) (s p : Int) (Mx : MM) (D T : List Bl), (p = (D.length : Int)) → (bRep (Mx 1) (D ++ T)) → (∀ b ∈ T, okB b) → (D ++ rotL T = rotL bs) → (s + rotN T = rotN bs) → (0 ≤ s ∧ D.length + T.length ≤ 24) → (bO (M 1) (Mx 1)) → (∀ q, q ≠ 1 → Mx q = M q) → T.length < N → ZP C 4 (mF ma h (Mx)) 0 0 [some (vR (ma 0)), some (vI s), some (vI p), none] 4 [] := by
    intro N
    induction N with
    | zero => intro s p Mx D T hp hb hok hf hs hl ho hr hN; exact absurd hN (Nat.not_lt_zero _)
    | succ N ih4 =>
      intro s p Mx D T hp hb hok hf hs hl ho hr hN
      refine ZP.fact (P := mR (Mx)) (fun _ h => h.1.2.2.2) (fun hR4 => ?_)
      subst hp
      refine z_iload_n (pc' := 5) X dX8_rots_4 rfl rfl ?_
      refine z_aload_n (pc' := 6) X dX8_rots_5 rfl rfl ?_
      refine z_mget (pc' := 9) X 0 rfl (by decide) q2063 rfl dX8_rots_6 rfl ?_
      refine z_iconst (pc' := 10) X dX8_rots_9 rfl ?_
      refine z_mld (pc' := 11) X (r := 1) (by decide) (show 0 ≤ _ ∧ _ < (321 : Int) by omega) dX8_rots_10 rfl (fun hv10 => ?_)
      refine z_icmp_ge (tgt := 84) (pc' := 14) X (by first | assumption | omega) (by first | assumption | omega) dX8_rots_11 rfl (by decide) (fun c11 => ?_) (fun c11 => ?_)
      · obtain rfl := hb.nil rfl c11
        have hs9 : s = rotN bs := by rw [show rotN ([] : List Bl) = 0 from rfl] at hs; omega
        refine z_iload_n (pc' := 85) X dX8_rots_84 rfl rfl ?_
        refine z_ireturn X dX8_rots_85 (Nat.le_refl _) (Nat.le_refl _) (fun _ hh => ⟨_, hh, _, rfl, ?_, ?_⟩)
        · first | assumption | omega
        · rw [show rotL ([] : List Bl) = [] from rfl] at hf; rw [List.append_nil] at hf hb; exact ⟨hs9, by rw [← hf]; exact hb, ho, hr⟩
      · obtain ⟨b, t, rfl⟩ := hb.cons rfl c11
        obtain ⟨⟨e0, e1, e2, e3⟩, hd1, hd2, hd3⟩ := hb.hd
        obtain ⟨k0, k1, k2, k3⟩ := hok b List.mem_cons_self
        have hX : 0 ≤ rotX b ∧ rotX b ≤ b.2.1 := by unfold rotX; split <;> omega
        have hRt := rotN_b (bs := t) (fun q hq => hok q (List.mem_cons_of_mem _ hq))
        rw [rotN_c] at hs
        refine z_aload_n (pc' := 15) X dX8_rots_14 rfl rfl ?_
        refine z_iload_n (pc' := 16) X dX8_rots_15 rfl rfl ?_
        refine z_V_fun1 (pc' := 19) X rfl Y_X8_isMouldy q2232 dX8_rots_16 rfl (by decide) (Nat.le_refl _) (Nat.le_refl _) (Nat.le_of_ble_eq_true rfl) (c_X8_isMouldy _ _ _ _ _ (by first | assumption | omega)) (fun r16 hr16 hp16 => ?_)
        refine z_if_eq (tgt := 37) (pc' := 22) X (by first | assumption | omega) dX8_rots_19 rfl (by decide) (fun c19 => ?_) (fun c19 => ?_)
        · refine z_iconst (pc' := 38) X dX8_rots_37 rfl ?_
          refine ZP.top (a' := rotX b) (by unfold rotX; first | rw [if_pos (by omega)] | rw [if_neg (by omega)]) ?_
          refine z_istore_n (pc' := 39) X dX8_rots_38 rfl (by decide) rfl ?_
          dsimp only [List.set]
          refine z_iload_n (pc' := 40) X dX8_rots_39 rfl rfl ?_
          refine z_iload_n (pc' := 41) X dX8_rots_40 rfl rfl ?_
          refine z_iadd (pc' := 42) X dX8_rots_41 rfl ?_
          refine z_istore_n (pc' := 43) X dX8_rots_42 rfl (by decide) rfl ?_
          dsimp only [List.set]
          refine z_aload_n (pc' := 44) X dX8_rots_43 rfl rfl ?_
          refine z_iload_n (pc' := 45) X dX8_rots_44 rfl rfl ?_
          refine z_iconst (pc' := 46) X dX8_rots_45 rfl ?_
          refine z_aload_n (pc' := 47) X dX8_rots_46 rfl rfl ?_
          refine z_iload_n (pc' := 48) X dX8_rots_47 rfl rfl ?_
          refine z_iconst (pc' := 49) X dX8_rots_48 rfl ?_
          refine z_V_fun2 (pc' := 52) X rfl Y_X8_bale q2194 dX8_rots_49 rfl (by decide) (Nat.le_refl _) (Nat.le_refl _) (Nat.le_of_ble_eq_true rfl) (c_X8_bale _ _ _ _ _ _ (by first | assumption | omega) (by first | assumption | omega)) (fun r49 hr49 hp49 => ?_)
          subst hp49
          rw [e1]
          rw [e1] at hr49
          refine z_iload_n (pc' := 53) X dX8_rots_52 rfl rfl ?_
          refine z_isub (pc' := 54) X dX8_rots_53 rfl ?_
          refine z_V_void3 (pc' := 57) X rfl Y_X8_lay q2162 dX8_rots_54 rfl (by decide) (Nat.le_refl _) (Nat.le_refl _) (Nat.le_of_ble_eq_true rfl) (c_X8_lay _ _ _ _ _ _ _ (by first | assumption | omega) (by first | assumption | omega) (by first | assumption | omega)) (fun M54 hp54 hR54 => ?_)
          subst hp54
          have hb2 := hb.rags (z := b.2.1 - rotX b)
          have hc2 := hb2.1.hd
          refine z_aload_n (pc' := 58) X dX8_rots_57 rfl rfl ?_
          refine z_iload_n (pc' := 59) X dX8_rots_58 rfl rfl ?_
          refine z_iconst (pc' := 60) X dX8_rots_59 rfl ?_
          refine z_V_fun2 (pc' := 63) X rfl Y_X8_bale q2194 dX8_rots_60 rfl (by decide) (Nat.le_refl _) (Nat.le_refl _) (Nat.le_of_ble_eq_true rfl) (c_X8_bale _ _ _ _ _ _ (by first | assumption | omega) (by first | assumption | omega)) (fun r60 hr60 hp60 => ?_)
          subst hp60
          rw [mB_s]
          rw [mB_s] at hr60
          refine z_if_ne (tgt := 78) (pc' := 66) X (by first | assumption | omega) dX8_rots_63 rfl (by decide) (fun c63 => ?_) (fun c63 => ?_)
          · refine z_iinc (pc' := 81) X dX8_rots_78 rfl (by decide) rfl rfl ?_
            dsimp only [List.set]
            refine z_goto (tgt := 4) X dX8_rots_81 (by decide) ?_
            refine ZP.wk (L' := [some (vR (ma 0)), some (vI _), some (vI _), none]) (And.intro rfl (And.intro rfl (And.intro rfl (trivial)))) ?_
            exact ih4 _ _ _ (D ++ [(b.1, b.2.1 - rotX b, b.2.2.1, b.2.2.2)]) t (by rw [List.length_append]; rfl) (by rw [List.append_assoc]; exact hb2.1) (by exact fun q hq => hok q (List.mem_cons_of_mem _ hq)) (by rw [List.append_assoc, ← hf]; rw [rotL_c, if_neg c63]; rfl) (by omega) (by rw [List.length_cons] at hl; rw [List.length_append]; exact ⟨by omega, by show D.length + 1 + _ ≤ 24; omega⟩) (by exact ho.tr hb2.2) (by exact fun q hq => (mset_r hq).trans (hr q hq)) (by rw [List.length_cons] at hN; omega)
          · have hb3 := hb2.1.out
            refine z_aload_n (pc' := 67) X dX8_rots_66 rfl rfl ?_
            refine z_bipush (pc' := 69) X dX8_rots_67 rfl (by decide) ?_
            refine z_iconst (pc' := 70) X dX8_rots_69 rfl ?_
            refine z_iload_n (pc' := 71) X dX8_rots_70 rfl rfl ?_
            refine z_iconst (pc' := 72) X dX8_rots_71 rfl ?_
            refine z_V_void4 (pc' := 75) X rfl Y_X8_takesOut q2202 dX8_rots_72 rfl (by decide) (Nat.le_refl _) (Nat.le_refl _) (Nat.le_of_ble_eq_true rfl) (c_X8_takesOut_b _ _ _ _ _ ⟨by omega, hc2.2.1⟩ hc2.2.2.1) (fun M72 hp72 hR72 => ?_)
            subst hp72
            refine z_goto (tgt := 81) X dX8_rots_75 (by decide) ?_
            refine z_goto (tgt := 4) X dX8_rots_81 (by decide) ?_
            refine ZP.wk (L' := [some (vR (ma 0)), some (vI _), some (vI _), none]) (And.intro rfl (And.intro rfl (And.intro rfl (trivial)))) ?_
            exact ih4 _ _ _ D t (by rfl) (by exact hb3.1) (by exact fun q hq => hok q (List.mem_cons_of_mem _ hq)) (by rw [← hf]; rw [rotL_c, if_pos c63]) (by omega) (by rw [List.length_cons] at hl; exact ⟨by omega, by omega⟩) (by exact (ho.tr hb2.2).tr hb3.2.1) (by exact fun q hq => (hb3.2.2 q hq).trans ((mset_r hq).trans (hr q hq))) (by rw [List.length_cons] at hN; omega)
        · refine z_aload_n (pc' := 23) X dX8_rots_22 rfl rfl ?_
          refine z_iload_n (pc' := 24) X dX8_rots_23 rfl rfl ?_
          refine z_iconst (pc' := 25) X dX8_rots_24 rfl ?_
          refine z_V_fun2 (pc' := 28) X rfl Y_X8_bale q2194 dX8_rots_25 rfl (by decide) (Nat.le_refl _) (Nat.le_refl _) (Nat.le_of_ble_eq_true rfl) (c_X8_bale _ _ _ _ _ _ (by first | assumption | omega) (by first | assumption | omega)) (fun r25 hr25 hp25 => ?_)
          subst hp25
          rw [e1]
          rw [e1] at hr25
          refine z_bipush (pc' := 30) X dX8_rots_28 rfl (by decide) ?_
          refine z_iadd (pc' := 31) X dX8_rots_30 rfl ?_
          refine z_bipush (pc' := 33) X dX8_rots_31 rfl (by decide) ?_
          refine z_idivp (pc' := 34) X (by first | assumption | omega) (by decide) dX8_rots_33 rfl ?_
          refine z_goto (tgt := 38) X dX8_rots_34 (by decide) ?_
          refine ZP.top (a' := rotX b) (by unfold rotX; first | rw [if_pos (by omega)] | rw [if_neg (by omega)]) ?_
          refine z_istore_n (pc' := 39) X dX8_rots_38 rfl (by decide) rfl ?_
          dsimp only [List.set]
          refine z_iload_n (pc' := 40) X dX8_rots_39 rfl rfl ?_
          refine z_iload_n (pc' := 41) X dX8_rots_40 rfl rfl ?_
          refine z_iadd (pc' := 42) X dX8_rots_41 rfl ?_
          refine z_istore_n (pc' := 43) X dX8_rots_42 rfl (by decide) rfl ?_
          dsimp only [List.set]
          refine z_aload_n (pc' := 44) X dX8_rots_43 rfl rfl ?_
          refine z_iload_n (pc' := 45) X dX8_rots_44 rfl rfl ?_
          refine z_iconst (pc' := 46) X dX8_rots_45 rfl ?_
          refine z_aload_n (pc' := 47) X dX8_rots_46 rfl rfl ?_
          refine z_iload_n (pc' := 48) X dX8_rots_47 rfl rfl ?_
          refine z_iconst (pc' := 49) X dX8_rots_48 rfl ?_
          refine z_V_fun2 (pc' := 52) X rfl Y_X8_bale q2194 dX8_rots_49 rfl (by decide) (Nat.le_refl _) (Nat.le_refl _) (Nat.le_of_ble_eq_true rfl) (c_X8_bale _ _ _ _ _ _ (by first | assumption | omega) (by first | assumption | omega)) (fun r49 hr49 hp49 => ?_)
          subst hp49
          rw [e1]
          rw [e1] at hr49
          refine z_iload_n (pc' := 53) X dX8_rots_52 rfl rfl ?_
          refine z_isub (pc' := 54) X dX8_rots_53 rfl ?_
          refine z_V_void3 (pc' := 57) X rfl Y_X8_lay q2162 dX8_rots_54 rfl (by decide) (Nat.le_refl _) (Nat.le_refl _) (Nat.le_of_ble_eq_true rfl) (c_X8_lay _ _ _ _ _ _ _ (by first | assumption | omega) (by first | assumption | omega) (by first | assumption | omega)) (fun M54 hp54 hR54 => ?_)
          subst hp54
          have hb2 := hb.rags (z := b.2.1 - rotX b)
          have hc2 := hb2.1.hd
          refine z_aload_n (pc' := 58) X dX8_rots_57 rfl rfl ?_
          refine z_iload_n (pc' := 59) X dX8_rots_58 rfl rfl ?_
          refine z_iconst (pc' := 60) X dX8_rots_59 rfl ?_
          refine z_V_fun2 (pc' := 63) X rfl Y_X8_bale q2194 dX8_rots_60 rfl (by decide) (Nat.le_refl _) (Nat.le_refl _) (Nat.le_of_ble_eq_true rfl) (c_X8_bale _ _ _ _ _ _ (by first | assumption | omega) (by first | assumption | omega)) (fun r60 hr60 hp60 => ?_)
          subst hp60
          rw [mB_s]
          rw [mB_s] at hr60
          refine z_if_ne (tgt := 78) (pc' := 66) X (by first | assumption | omega) dX8_rots_63 rfl (by decide) (fun c63 => ?_) (fun c63 => ?_)
          · refine z_iinc (pc' := 81) X dX8_rots_78 rfl (by decide) rfl rfl ?_
            dsimp only [List.set]
            refine z_goto (tgt := 4) X dX8_rots_81 (by decide) ?_
            refine ZP.wk (L' := [some (vR (ma 0)), some (vI _), some (vI _), none]) (And.intro rfl (And.intro rfl (And.intro rfl (trivial)))) ?_
            exact ih4 _ _ _ (D ++ [(b.1, b.2.1 - rotX b, b.2.2.1, b.2.2.2)]) t (by rw [List.length_append]; rfl) (by rw [List.append_assoc]; exact hb2.1) (by exact fun q hq => hok q (List.mem_cons_of_mem _ hq)) (by rw [List.append_assoc, ← hf]; rw [rotL_c, if_neg c63]; rfl) (by omega) (by rw [List.length_cons] at hl; rw [List.length_append]; exact ⟨by omega, by show D.length + 1 + _ ≤ 24; omega⟩) (by exact ho.tr hb2.2) (by exact fun q hq => (mset_r hq).trans (hr q hq)) (by rw [List.length_cons] at hN; omega)
          · have hb3 := hb2.1.out
            refine z_aload_n (pc' := 67) X dX8_rots_66 rfl rfl ?_
            refine z_bipush (pc' := 69) X dX8_rots_67 rfl (by decide) ?_
            refine z_iconst (pc' := 70) X dX8_rots_69 rfl ?_
            refine z_iload_n (pc' := 71) X dX8_rots_70 rfl rfl ?_
            refine z_iconst (pc' := 72) X dX8_rots_71 rfl ?_
            refine z_V_void4 (pc' := 75) X rfl Y_X8_takesOut q2202 dX8_rots_72 rfl (by decide) (Nat.le_refl _) (Nat.le_refl _) (Nat.le_of_ble_eq_true rfl) (c_X8_takesOut_b _ _ _ _ _ ⟨by omega, hc2.2.1⟩ hc2.2.2.1) (fun M72 hp72 hR72 => ?_)
            subst hp72
            refine z_goto (tgt := 81) X dX8_rots_75 (by decide) ?_
            refine z_goto (tgt := 4) X dX8_rots_81 (by decide) ?_
            refine ZP.wk (L' := [some (vR (ma 0)), some (vI _), some (vI _), none]) (And.intro rfl (And.intro rfl (And.intro rfl (trivial)))) ?_
            exact ih4 _ _ _ D t (by rfl) (by exact hb3.1) (by exact fun q hq => hok q (List.mem_cons_of_mem _ hq)) (by rw [← hf]; rw [rotL_c, if_pos c63]) (by omega) (by rw [List.length_cons] at hl; exact ⟨by omega, by omega⟩) (by exact (ho.tr hb2.2).tr hb3.2.1) (by exact fun q hq => (hb3.2.2 q hq).trans ((mset_r hq).trans (hr q hq))) (by rw [List.length_cons] at hN; omega)
  refine ZP.wk (L' := [some (vR (ma 0)), some (vI _), some (vI _), none]) (And.intro rfl (And.intro rfl (And.intro rfl (trivial)))) ?_
  exact loop4 _ _ _ _ [] bs (by rfl) (by exact hb0) (by exact hok0) (by rfl) (by exact Int.zero_add _) (by exact ⟨Int.le_refl _, by rw [List.length_nil]; omega⟩) (by exact bO.rf) (by exact fun _ _ => rfl) (Nat.lt_succ_self _)
def dampB (st : Int) (b : Bl) : Bl := (b.1, b.2.1, (if b.2.2.1 - 1 - st < 0 then 0 else b.2.2.1 - 1 - st), b.2.2.2)
theorem dampB_ok {st : Int} (hst : 0 ≤ st) {b : Bl} (h : okB b) : okB (dampB st b) := by
  obtain ⟨h0, h1, h2, h3⟩ := h
  refine ⟨h0, h1, ?_, h3⟩
  unfold dampB
  dsimp only
  split <;> omega
def hStove (M : MM) : Int := if M 1 1 < 4 * M 1 2 then 0 else M 1 2
theorem iup_i {f : Int → Int} {k z j : Int} : iup f k z j = if j = k then z else f j := rfl
theorem Y_X8_heats : zYV yX8_heats cX8_heats 3 none 0 := ⟨⟨q2384, qs84, q132, q2385⟩, by decide +kernel, by decide⟩
set_option maxRecDepth 100000 in
theorem c_X8_heats (l : Launch) (g : zG) (ma : Nat → Nat) (M : MM) (bs : List Bl) (hb0 : bRep (M 1) bs) (hok0 : ∀ b ∈ bs, okB b) (hp0 : 0 ≤ M 1 1 ∧ M 1 1 ≤ 1000000) (hs0 : 0 ≤ M 1 2 ∧ M 1 2 ≤ 3) : mVoid l yX8_heats cX8_heats 3 2 [vR (ma 0)] g ma M (fun M' => (∀ j, j ≠ 1 → j ≠ 2 → (j < 21 ∨ 117 ≤ j) → j ≠ 4 → M' 1 j = M 1 j) ∧ M' 1 2 = hStove M ∧ M' 1 1 = M 1 1 - 4 * hStove M ∧ bRep (M' 1) (bs.map (dampB (hStove M))) ∧ ∀ q, q ≠ 1 → M' q = M q) := by
  refine mVoid.mk (L0 := [some (vR (ma 0)), none, none]) (by decide) rfl (Nat.le_of_ble_eq_true rfl) rfl (fun C h hg hl hR X => ?_)
  subst hg hl
  have hlen := hb0.2.1
  have hsb : 0 ≤ hStove M ∧ hStove M ≤ 3 := by unfold hStove; split <;> omega
  refine z_aload_n (pc' := 1) X dX8_heats_0 rfl rfl ?_
  refine z_mget (pc' := 4) X 0 rfl (by decide) q2063 rfl dX8_heats_1 rfl ?_
  refine z_iconst (pc' := 5) X dX8_heats_4 rfl ?_
  refine z_mld (pc' := 6) X (r := 1) (by decide) (show 0 ≤ _ ∧ _ < (321 : Int) by omega) dX8_heats_5 rfl (fun hv5 => ?_)
  refine z_iconst (pc' := 7) X dX8_heats_6 rfl ?_
  refine z_aload_n (pc' := 8) X dX8_heats_7 rfl rfl ?_
  refine z_mget (pc' := 11) X 0 rfl (by decide) q2063 rfl dX8_heats_8 rfl ?_
  refine z_iconst (pc' := 12) X dX8_heats_11 rfl ?_
  refine z_mld (pc' := 13) X (r := 1) (by decide) (show 0 ≤ _ ∧ _ < (321 : Int) by omega) dX8_heats_12 rfl (fun hv12 => ?_)
  refine z_imul (pc' := 14) X dX8_heats_13 rfl ?_
  refine z_icmp_ge (tgt := 24) (pc' := 17) X (by first | assumption | omega) (by first | assumption | omega) dX8_heats_14 rfl (by decide) (fun c14 => ?_) (fun c14 => ?_)
  · refine z_aload_n (pc' := 25) X dX8_heats_24 rfl rfl ?_
    refine z_mget (pc' := 28) X 0 rfl (by decide) q2063 rfl dX8_heats_25 rfl ?_
    refine z_iconst (pc' := 29) X dX8_heats_28 rfl ?_
    refine z_dup2 (pc' := 30) X rfl rfl dX8_heats_29 rfl ?_
    refine z_mld (pc' := 31) X (r := 1) (by decide) (show 0 ≤ _ ∧ _ < (321 : Int) by omega) dX8_heats_30 rfl (fun hv30 => ?_)
    try rw [mset_k (by decide)]
    try rw [mset_k (by decide)] at hv30
    refine z_iconst (pc' := 32) X dX8_heats_31 rfl ?_
    refine z_aload_n (pc' := 33) X dX8_heats_32 rfl rfl ?_
    refine z_mget (pc' := 36) X 0 rfl (by decide) q2063 rfl dX8_heats_33 rfl ?_
    refine z_iconst (pc' := 37) X dX8_heats_36 rfl ?_
    refine z_mld (pc' := 38) X (r := 1) (by decide) (show 0 ≤ _ ∧ _ < (321 : Int) by omega) dX8_heats_37 rfl (fun hv37 => ?_)
    try rw [mset_s]
    try rw [mset_s] at hv37
    refine z_imul (pc' := 39) X dX8_heats_38 rfl ?_
    refine z_isub (pc' := 40) X dX8_heats_39 rfl ?_
    refine z_mst (pc' := 41) X (r := 1) (by decide) (show 0 ≤ _ ∧ _ < (321 : Int) by omega) (by first | assumption | omega) dX8_heats_40 rfl (fun hR40 => ?_)
    refine z_iconst (pc' := 42) X dX8_heats_41 rfl ?_
    refine z_istore_n (pc' := 43) X dX8_heats_42 rfl (by decide) rfl ?_
    dsimp only [List.set]
    have loop43 : ∀ (N : Nat) (p : Int) (Mx : MM) (D T : List Bl), (p = (D.length : Int)) → (bRep (Mx 1) (D ++ T)) → (∀ b ∈ T, okB b) → (D ++ T.map (dampB (hStove M)) = bs.map (dampB (hStove M))) → (D.length + T.length ≤ 24) → (Mx 1 2 = hStove M) → (Mx 1 1 = M 1 1 - 4 * hStove M) → (∀ j, j ≠ 1 → j ≠ 2 → (j < 21 ∨ 117 ≤ j) → j ≠ 4 → Mx 1 j = M 1 j) → (∀ q, q ≠ 1 → Mx q = M q) → T.length < N → ZP C 3 (mF ma h (Mx)) 0 0 [some (vR (ma 0)), some (vI p), none] 43 [] := by
      intro N
      induction N with
      | zero => intro p Mx D T hp hb hok hf hl h2 h1 ho hr hN; exact absurd hN (Nat.not_lt_zero _)
      | succ N ih43 =>
        intro p Mx D T hp hb hok hf hl h2 h1 ho hr hN
        refine ZP.fact (P := mR (Mx)) (fun _ h => h.1.2.2.2) (fun hR43 => ?_)
        subst hp
        refine z_iload_n (pc' := 44) X dX8_heats_43 rfl rfl ?_
        refine z_aload_n (pc' := 45) X dX8_heats_44 rfl rfl ?_
        refine z_mget (pc' := 48) X 0 rfl (by decide) q2063 rfl dX8_heats_45 rfl ?_
        refine z_iconst (pc' := 49) X dX8_heats_48 rfl ?_
        refine z_mld (pc' := 50) X (r := 1) (by decide) (show 0 ≤ _ ∧ _ < (321 : Int) by omega) dX8_heats_49 rfl (fun hv49 => ?_)
        refine z_icmp_ge (tgt := 90) (pc' := 53) X (by first | assumption | omega) (by first | assumption | omega) dX8_heats_50 rfl (by decide) (fun c50 => ?_) (fun c50 => ?_)
        · refine z_return X dX8_heats_90 (Nat.le_refl _) (Nat.le_refl _) (fun _ hh => ⟨_, hh, rfl, ?_⟩)
          · obtain rfl := hb.nil rfl c50; rw [List.map_nil, List.append_nil] at hf; rw [List.append_nil] at hb; exact ⟨ho, h2, h1, by rw [← hf]; exact hb, hr⟩
        · obtain ⟨b, t, rfl⟩ := hb.cons rfl c50
          obtain ⟨⟨e0, e1, e2, e3⟩, hd1, hd2, hd3⟩ := hb.hd
          obtain ⟨k0, k1, k2, k3⟩ := hok b List.mem_cons_self
          refine z_aload_n (pc' := 54) X dX8_heats_53 rfl rfl ?_
          refine z_iload_n (pc' := 55) X dX8_heats_54 rfl rfl ?_
          refine z_iconst (pc' := 56) X dX8_heats_55 rfl ?_
          refine z_V_fun2 (pc' := 59) X rfl Y_X8_bale q2194 dX8_heats_56 rfl (by decide) (Nat.le_refl _) (Nat.le_refl _) (Nat.le_of_ble_eq_true rfl) (c_X8_bale _ _ _ _ _ _ (by first | assumption | omega) (by first | assumption | omega)) (fun r56 hr56 hp56 => ?_)
          subst hp56
          rw [e2]
          rw [e2] at hr56
          refine z_iconst (pc' := 60) X dX8_heats_59 rfl ?_
          refine z_isub (pc' := 61) X dX8_heats_60 rfl ?_
          refine z_aload_n (pc' := 62) X dX8_heats_61 rfl rfl ?_
          refine z_mget (pc' := 65) X 0 rfl (by decide) q2063 rfl dX8_heats_62 rfl ?_
          refine z_iconst (pc' := 66) X dX8_heats_65 rfl ?_
          refine z_mld (pc' := 67) X (r := 1) (by decide) (show 0 ≤ _ ∧ _ < (321 : Int) by omega) dX8_heats_66 rfl (fun hv66 => ?_)
          rw [h2]
          rw [h2] at hv66
          refine z_isub (pc' := 68) X dX8_heats_67 rfl ?_
          refine z_istore_n (pc' := 69) X dX8_heats_68 rfl (by decide) rfl ?_
          dsimp only [List.set]
          refine z_aload_n (pc' := 70) X dX8_heats_69 rfl rfl ?_
          refine z_iload_n (pc' := 71) X dX8_heats_70 rfl rfl ?_
          refine z_iconst (pc' := 72) X dX8_heats_71 rfl ?_
          refine z_iload_n (pc' := 73) X dX8_heats_72 rfl rfl ?_
          refine z_if_ge (tgt := 80) (pc' := 76) X (by first | assumption | omega) dX8_heats_73 rfl (by decide) (fun c73 => ?_) (fun c73 => ?_)
          · refine z_iload_n (pc' := 81) X dX8_heats_80 rfl rfl ?_
            refine ZP.top (a' := (dampB (hStove M) b).2.2.1) (by show _ = (if _ then _ else _); first | rw [if_pos (by omega)] | rw [if_neg (by omega)]) ?_
            have hdk := dampB_ok hsb.1 (b := b) ⟨k0, k1, k2, k3⟩
            obtain ⟨-, -, hdk2, -⟩ := hdk
            refine z_V_void3 (pc' := 84) X rfl Y_X8_lay q2162 dX8_heats_81 rfl (by decide) (Nat.le_refl _) (Nat.le_refl _) (Nat.le_of_ble_eq_true rfl) (c_X8_lay _ _ _ _ _ _ _ (by first | assumption | omega) (by first | assumption | omega) (by first | assumption | omega)) (fun M81 hp81 hR81 => ?_)
            subst hp81
            have hb2 := hb.damp (z := (dampB (hStove M) b).2.2.1)
            refine z_iinc (pc' := 87) X dX8_heats_84 rfl (by decide) rfl rfl ?_
            dsimp only [List.set]
            refine z_goto (tgt := 43) X dX8_heats_87 (by decide) ?_
            refine ZP.wk (L' := [some (vR (ma 0)), some (vI _), none]) (And.intro rfl (And.intro rfl (trivial))) ?_
            exact ih43 _ _ (D ++ [dampB (hStove M) b]) t (by rw [List.length_append]; rfl) (by rw [List.append_assoc]; exact hb2.1) (by exact fun q hq => hok q (List.mem_cons_of_mem _ hq)) (by rw [List.append_assoc, ← hf]; rfl) (by rw [List.length_cons] at hl; rw [List.length_append]; show D.length + 1 + _ ≤ 24; omega) (by rw [mset_k (by omega)]; exact h2) (by rw [mset_k (by omega)]; exact h1) (by exact fun j a1 a2 a3 a4 => (hb2.2 j a3 a4).trans (ho j a1 a2 a3 a4)) (by exact fun q hq => (mset_r hq).trans (hr q hq)) (by rw [List.length_cons] at hN; omega)
          · refine z_iconst (pc' := 77) X dX8_heats_76 rfl ?_
            refine z_goto (tgt := 81) X dX8_heats_77 (by decide) ?_
            refine ZP.top (a' := (dampB (hStove M) b).2.2.1) (by show _ = (if _ then _ else _); first | rw [if_pos (by omega)] | rw [if_neg (by omega)]) ?_
            have hdk := dampB_ok hsb.1 (b := b) ⟨k0, k1, k2, k3⟩
            obtain ⟨-, -, hdk2, -⟩ := hdk
            refine z_V_void3 (pc' := 84) X rfl Y_X8_lay q2162 dX8_heats_81 rfl (by decide) (Nat.le_refl _) (Nat.le_refl _) (Nat.le_of_ble_eq_true rfl) (c_X8_lay _ _ _ _ _ _ _ (by first | assumption | omega) (by first | assumption | omega) (by first | assumption | omega)) (fun M81 hp81 hR81 => ?_)
            subst hp81
            have hb2 := hb.damp (z := (dampB (hStove M) b).2.2.1)
            refine z_iinc (pc' := 87) X dX8_heats_84 rfl (by decide) rfl rfl ?_
            dsimp only [List.set]
            refine z_goto (tgt := 43) X dX8_heats_87 (by decide) ?_
            refine ZP.wk (L' := [some (vR (ma 0)), some (vI _), none]) (And.intro rfl (And.intro rfl (trivial))) ?_
            exact ih43 _ _ (D ++ [dampB (hStove M) b]) t (by rw [List.length_append]; rfl) (by rw [List.append_assoc]; exact hb2.1) (by exact fun q hq => hok q (List.mem_cons_of_mem _ hq)) (by rw [List.append_assoc, ← hf]; rfl) (by rw [List.length_cons] at hl; rw [List.length_append]; show D.length + 1 + _ ≤ 24; omega) (by rw [mset_k (by omega)]; exact h2) (by rw [mset_k (by omega)]; exact h1) (by exact fun j a1 a2 a3 a4 => (hb2.2 j a3 a4).trans (ho j a1 a2 a3 a4)) (by exact fun q hq => (mset_r hq).trans (hr q hq)) (by rw [List.length_cons] at hN; omega)
    refine ZP.wk (L' := [some (vR (ma 0)), some (vI _), none]) (And.intro rfl (And.intro rfl (trivial))) ?_
    exact loop43 _ _ _ [] bs (by rfl) (by exact hb0.same (by repeat rw [mset_k (by decide)]) (fun j _ _ => by repeat rw [mset_k (by omega)])) (by exact hok0) (by rfl) (by rw [List.length_nil]; omega) (by first | (rw [mset_k (by decide), mset_s]; exact (if_pos (by omega)).symm) | (rw [mset_k (by decide)]; exact (if_neg (by omega)).symm)) (by rw [mset_s]; unfold hStove; (first | rw [if_pos (by omega)] | rw [if_neg (by omega)])) (by exact fun j a1 a2 _ _ => by first | rw [mset_k a1, mset_k a2] | rw [mset_k a1]) (by exact fun q hq => by first | rw [mset_r hq, mset_r hq] | rw [mset_r hq]) (Nat.lt_succ_self _)
  · refine z_aload_n (pc' := 18) X dX8_heats_17 rfl rfl ?_
    refine z_mget (pc' := 21) X 0 rfl (by decide) q2063 rfl dX8_heats_18 rfl ?_
    refine z_iconst (pc' := 22) X dX8_heats_21 rfl ?_
    refine z_iconst (pc' := 23) X dX8_heats_22 rfl ?_
    refine z_mst (pc' := 24) X (r := 1) (by decide) (show 0 ≤ _ ∧ _ < (321 : Int) by omega) (by first | assumption | omega) dX8_heats_23 rfl (fun hR23 => ?_)
    refine z_aload_n (pc' := 25) X dX8_heats_24 rfl rfl ?_
    refine z_mget (pc' := 28) X 0 rfl (by decide) q2063 rfl dX8_heats_25 rfl ?_
    refine z_iconst (pc' := 29) X dX8_heats_28 rfl ?_
    refine z_dup2 (pc' := 30) X rfl rfl dX8_heats_29 rfl ?_
    refine z_mld (pc' := 31) X (r := 1) (by decide) (show 0 ≤ _ ∧ _ < (321 : Int) by omega) dX8_heats_30 rfl (fun hv30 => ?_)
    try rw [mset_k (by decide)]
    try rw [mset_k (by decide)] at hv30
    refine z_iconst (pc' := 32) X dX8_heats_31 rfl ?_
    refine z_aload_n (pc' := 33) X dX8_heats_32 rfl rfl ?_
    refine z_mget (pc' := 36) X 0 rfl (by decide) q2063 rfl dX8_heats_33 rfl ?_
    refine z_iconst (pc' := 37) X dX8_heats_36 rfl ?_
    refine z_mld (pc' := 38) X (r := 1) (by decide) (show 0 ≤ _ ∧ _ < (321 : Int) by omega) dX8_heats_37 rfl (fun hv37 => ?_)
    try rw [mset_s]
    try rw [mset_s] at hv37
    refine z_imul (pc' := 39) X dX8_heats_38 rfl ?_
    refine z_isub (pc' := 40) X dX8_heats_39 rfl ?_
    refine z_mst (pc' := 41) X (r := 1) (by decide) (show 0 ≤ _ ∧ _ < (321 : Int) by omega) (by first | assumption | omega) dX8_heats_40 rfl (fun hR40 => ?_)
    refine z_iconst (pc' := 42) X dX8_heats_41 rfl ?_
    refine z_istore_n (pc' := 43) X dX8_heats_42 rfl (by decide) rfl ?_
    dsimp only [List.set]
    have loop43 : ∀ (N : Nat) (p : Int) (Mx : MM) (D T : List Bl), (p = (D.length : Int)) → (bRep (Mx 1) (D ++ T)) → (∀ b ∈ T, okB b) → (D ++ T.map (dampB (hStove M)) = bs.map (dampB (hStove M))) → (D.length + T.length ≤ 24) → (Mx 1 2 = hStove M) → (Mx 1 1 = M 1 1 - 4 * hStove M) → (∀ j, j ≠ 1 → j ≠ 2 → (j < 21 ∨ 117 ≤ j) → j ≠ 4 → Mx 1 j = M 1 j) → (∀ q, q ≠ 1 → Mx q = M q) → T.length < N → ZP C 3 (mF ma h (Mx)) 0 0 [some (vR (ma 0)), some (vI p), none] 43 [] := by
      intro N
      induction N with
      | zero => intro p Mx D T hp hb hok hf hl h2 h1 ho hr hN; exact absurd hN (Nat.not_lt_zero _)
      | succ N ih43 =>
        intro p Mx D T hp hb hok hf hl h2 h1 ho hr hN
        refine ZP.fact (P := mR (Mx)) (fun _ h => h.1.2.2.2) (fun hR43 => ?_)
        subst hp
        refine z_iload_n (pc' := 44) X dX8_heats_43 rfl rfl ?_
        refine z_aload_n (pc' := 45) X dX8_heats_44 rfl rfl ?_
        refine z_mget (pc' := 48) X 0 rfl (by decide) q2063 rfl dX8_heats_45 rfl ?_
        refine z_iconst (pc' := 49) X dX8_heats_48 rfl ?_
        refine z_mld (pc' := 50) X (r := 1) (by decide) (show 0 ≤ _ ∧ _ < (321 : Int) by omega) dX8_heats_49 rfl (fun hv49 => ?_)
        refine z_icmp_ge (tgt := 90) (pc' := 53) X (by first | assumption | omega) (by first | assumption | omega) dX8_heats_50 rfl (by decide) (fun c50 => ?_) (fun c50 => ?_)
        · refine z_return X dX8_heats_90 (Nat.le_refl _) (Nat.le_refl _) (fun _ hh => ⟨_, hh, rfl, ?_⟩)
          · obtain rfl := hb.nil rfl c50; rw [List.map_nil, List.append_nil] at hf; rw [List.append_nil] at hb; exact ⟨ho, h2, h1, by rw [← hf]; exact hb, hr⟩
        · obtain ⟨b, t, rfl⟩ := hb.cons rfl c50
          obtain ⟨⟨e0, e1, e2, e3⟩, hd1, hd2, hd3⟩ := hb.hd
          obtain ⟨k0, k1, k2, k3⟩ := hok b List.mem_cons_self
          refine z_aload_n (pc' := 54) X dX8_heats_53 rfl rfl ?_
          refine z_iload_n (pc' := 55) X dX8_heats_54 rfl rfl ?_
          refine z_iconst (pc' := 56) X dX8_heats_55 rfl ?_
          refine z_V_fun2 (pc' := 59) X rfl Y_X8_bale q2194 dX8_heats_56 rfl (by decide) (Nat.le_refl _) (Nat.le_refl _) (Nat.le_of_ble_eq_true rfl) (c_X8_bale _ _ _ _ _ _ (by first | assumption | omega) (by first | assumption | omega)) (fun r56 hr56 hp56 => ?_)
          subst hp56
          rw [e2]
          rw [e2] at hr56
          refine z_iconst (pc' := 60) X dX8_heats_59 rfl ?_
          refine z_isub (pc' := 61) X dX8_heats_60 rfl ?_
          refine z_aload_n (pc' := 62) X dX8_heats_61 rfl rfl ?_
          refine z_mget (pc' := 65) X 0 rfl (by decide) q2063 rfl dX8_heats_62 rfl ?_
          refine z_iconst (pc' := 66) X dX8_heats_65 rfl ?_
          refine z_mld (pc' := 67) X (r := 1) (by decide) (show 0 ≤ _ ∧ _ < (321 : Int) by omega) dX8_heats_66 rfl (fun hv66 => ?_)
          rw [h2]
          rw [h2] at hv66
          refine z_isub (pc' := 68) X dX8_heats_67 rfl ?_
          refine z_istore_n (pc' := 69) X dX8_heats_68 rfl (by decide) rfl ?_
          dsimp only [List.set]
          refine z_aload_n (pc' := 70) X dX8_heats_69 rfl rfl ?_
          refine z_iload_n (pc' := 71) X dX8_heats_70 rfl rfl ?_
          refine z_iconst (pc' := 72) X dX8_heats_71 rfl ?_
          refine z_iload_n (pc' := 73) X dX8_heats_72 rfl rfl ?_
          refine z_if_ge (tgt := 80) (pc' := 76) X (by first | assumption | omega) dX8_heats_73 rfl (by decide) (fun c73 => ?_) (fun c73 => ?_)
          · refine z_iload_n (pc' := 81) X dX8_heats_80 rfl rfl ?_
            refine ZP.top (a' := (dampB (hStove M) b).2.2.1) (by show _ = (if _ then _ else _); first | rw [if_pos (by omega)] | rw [if_neg (by omega)]) ?_
            have hdk := dampB_ok hsb.1 (b := b) ⟨k0, k1, k2, k3⟩
            obtain ⟨-, -, hdk2, -⟩ := hdk
            refine z_V_void3 (pc' := 84) X rfl Y_X8_lay q2162 dX8_heats_81 rfl (by decide) (Nat.le_refl _) (Nat.le_refl _) (Nat.le_of_ble_eq_true rfl) (c_X8_lay _ _ _ _ _ _ _ (by first | assumption | omega) (by first | assumption | omega) (by first | assumption | omega)) (fun M81 hp81 hR81 => ?_)
            subst hp81
            have hb2 := hb.damp (z := (dampB (hStove M) b).2.2.1)
            refine z_iinc (pc' := 87) X dX8_heats_84 rfl (by decide) rfl rfl ?_
            dsimp only [List.set]
            refine z_goto (tgt := 43) X dX8_heats_87 (by decide) ?_
            refine ZP.wk (L' := [some (vR (ma 0)), some (vI _), none]) (And.intro rfl (And.intro rfl (trivial))) ?_
            exact ih43 _ _ (D ++ [dampB (hStove M) b]) t (by rw [List.length_append]; rfl) (by rw [List.append_assoc]; exact hb2.1) (by exact fun q hq => hok q (List.mem_cons_of_mem _ hq)) (by rw [List.append_assoc, ← hf]; rfl) (by rw [List.length_cons] at hl; rw [List.length_append]; show D.length + 1 + _ ≤ 24; omega) (by rw [mset_k (by omega)]; exact h2) (by rw [mset_k (by omega)]; exact h1) (by exact fun j a1 a2 a3 a4 => (hb2.2 j a3 a4).trans (ho j a1 a2 a3 a4)) (by exact fun q hq => (mset_r hq).trans (hr q hq)) (by rw [List.length_cons] at hN; omega)
          · refine z_iconst (pc' := 77) X dX8_heats_76 rfl ?_
            refine z_goto (tgt := 81) X dX8_heats_77 (by decide) ?_
            refine ZP.top (a' := (dampB (hStove M) b).2.2.1) (by show _ = (if _ then _ else _); first | rw [if_pos (by omega)] | rw [if_neg (by omega)]) ?_
            have hdk := dampB_ok hsb.1 (b := b) ⟨k0, k1, k2, k3⟩
            obtain ⟨-, -, hdk2, -⟩ := hdk
            refine z_V_void3 (pc' := 84) X rfl Y_X8_lay q2162 dX8_heats_81 rfl (by decide) (Nat.le_refl _) (Nat.le_refl _) (Nat.le_of_ble_eq_true rfl) (c_X8_lay _ _ _ _ _ _ _ (by first | assumption | omega) (by first | assumption | omega) (by first | assumption | omega)) (fun M81 hp81 hR81 => ?_)
            subst hp81
            have hb2 := hb.damp (z := (dampB (hStove M) b).2.2.1)
            refine z_iinc (pc' := 87) X dX8_heats_84 rfl (by decide) rfl rfl ?_
            dsimp only [List.set]
            refine z_goto (tgt := 43) X dX8_heats_87 (by decide) ?_
            refine ZP.wk (L' := [some (vR (ma 0)), some (vI _), none]) (And.intro rfl (And.intro rfl (trivial))) ?_
            exact ih43 _ _ (D ++ [dampB (hStove M) b]) t (by rw [List.length_append]; rfl) (by rw [List.append_assoc]; exact hb2.1) (by exact fun q hq => hok q (List.mem_cons_of_mem _ hq)) (by rw [List.append_assoc, ← hf]; rfl) (by rw [List.length_cons] at hl; rw [List.length_append]; show D.length + 1 + _ ≤ 24; omega) (by rw [mset_k (by omega)]; exact h2) (by rw [mset_k (by omega)]; exact h1) (by exact fun j a1 a2 a3 a4 => (hb2.2 j a3 a4).trans (ho j a1 a2 a3 a4)) (by exact fun q hq => (mset_r hq).trans (hr q hq)) (by rw [List.length_cons] at hN; omega)
    refine ZP.wk (L' := [some (vR (ma 0)), some (vI _), none]) (And.intro rfl (And.intro rfl (trivial))) ?_
    exact loop43 _ _ _ [] bs (by rfl) (by exact hb0.same (by repeat rw [mset_k (by decide)]) (fun j _ _ => by repeat rw [mset_k (by omega)])) (by exact hok0) (by rfl) (by rw [List.length_nil]; omega) (by first | (rw [mset_k (by decide), mset_s]; exact (if_pos (by omega)).symm) | (rw [mset_k (by decide)]; exact (if_neg (by omega)).symm)) (by rw [mset_s]; unfold hStove; (first | rw [if_pos (by omega)] | rw [if_neg (by omega)])) (by exact fun j a1 a2 _ _ => by first | rw [mset_k a1, mset_k a2] | rw [mset_k a1]) (by exact fun q hq => by first | rw [mset_r hq, mset_r hq] | rw [mset_r hq]) (Nat.lt_succ_self _)
end M4

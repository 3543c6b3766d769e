/-! THE MODEL: packing, making -/
section M8
def packX (a b c left : Int) (q : Pl) : Int := if q.1 = a ∧ q.2.1 = b ∧ q.2.2.1 = c ∧ 3 ≤ q.2.2.2.2 then min left q.2.2.2.1 else 0
def packL (a b c : Int) : Int → List Pl → List Pl
  | _, [] => []
  | left, q :: t => if left ≤ 0 then q :: t else if q.2.2.2.1 - packX a b c left q = 0 then packL a b c (left - packX a b c left q) t else (q.1, q.2.1, q.2.2.1, q.2.2.2.1 - packX a b c left q, q.2.2.2.2) :: packL a b c (left - packX a b c left q) t
theorem packL_c {a b c left : Int} {q : Pl} {t : List Pl} : packL a b c left (q :: t) = if left ≤ 0 then q :: t else if q.2.2.2.1 - packX a b c left q = 0 then packL a b c (left - packX a b c left q) t else (q.1, q.2.1, q.2.2.1, q.2.2.2.1 - packX a b c left q, q.2.2.2.2) :: packL a b c (left - packX a b c left q) t := rfl
theorem packL_0 {a b c left : Int} {T : List Pl} (h : left ≤ 0) : packL a b c left T = T := by
  cases T with
  | nil => rfl
  | cons q t => rw [packL_c, if_pos h]
def dryX (a b c : Int) (q : Pl) : Int := if q.1 = a ∧ q.2.1 = b ∧ q.2.2.1 = c ∧ 3 ≤ q.2.2.2.2 then q.2.2.2.1 else 0
def dryL (a b c : Int) : List Pl → Int
  | [] => 0
  | q :: t => dryX a b c q + dryL a b c t
theorem dryL_c {a b c : Int} {q : Pl} {t : List Pl} : dryL a b c (q :: t) = dryX a b c q + dryL a b c t := rfl
theorem dryL_app {a b c : Int} : ∀ (x y : List Pl), dryL a b c (x ++ y) = dryL a b c x + dryL a b c y
  | [], y => by rw [List.nil_append]; exact (Int.zero_add _).symm
  | q :: t, y => by
    rw [List.cons_append, dryL_c, dryL_c, dryL_app t y]
    omega
theorem dryM_L {M : MM} {ps : List Pl} (h : pRep (M 1) ps) (a b c : Int) : dryM M a b c = dryL a b c ps := by
  unfold dryM
  rw [h.1]
  have key : ∀ n : Nat, n ≤ ps.length → zsum (fun j => if mP M j 0 = a ∧ mP M j 1 = b ∧ mP M j 2 = c ∧ 3 ≤ mP M j 4 then mP M j 3 else 0) n = dryL a b c (ps.take n) := by
    intro n
    induction n with
    | zero => intro _; rw [List.take_zero]; rfl
    | succ n ih =>
      intro hn
      obtain ⟨e0, e1, e2, e3, e4⟩ := h.2.2 n ps[n] (List.getElem?_eq_getElem hn)
      rw [show ((n + 1 : Nat) : Int) = (n : Int) + 1 by omega, zsum_s (by omega), ih (by omega), List.take_succ_eq_append_getElem hn, dryL_app]
      show _ + (if mP M n 0 = a ∧ mP M n 1 = b ∧ mP M n 2 = c ∧ 3 ≤ mP M n 4 then mP M n 3 else 0) = _ + (dryX a b c ps[n] + 0)
      rw [show mP M n 0 = ps[n].1 from e0, show mP M n 1 = ps[n].2.1 from e1, show mP M n 2 = ps[n].2.2.1 from e2, show mP M n 3 = ps[n].2.2.2.1 from e3, show mP M n 4 = ps[n].2.2.2.2 from e4]
      unfold dryX
      omega
  rw [key ps.length (Nat.le_refl _), List.take_length]
theorem Y_X8_packs : zYV yX8_packs cX8_packs 8 (some .int) 4 := ⟨⟨q2332, qs74, q132, q2333⟩, by decide +kernel, by decide⟩
set_option maxRecDepth 100000 in
theorem c_X8_packs (l : Launch) (g : zG) (ma : Nat → Nat) (M : MM) (a b c qs : Int) (ps : List Pl) (ha : 0 ≤ a ∧ a ≤ 9) (hbb : 0 ≤ b ∧ b ≤ 2) (hc : 0 ≤ c ∧ c ≤ 2) (hq : 1 ≤ qs ∧ qs ≤ 20) (hI : mI M) (hb0 : pRep (M 1) ps) (hdr : qs * 24 ≤ dryL a b c ps) (h6 : M 1 6 < 30) : mInt l yX8_packs cX8_packs 8 (some .int) 4 [vR (ma 0), vI a, vI b, vI c, vI qs] g ma M (fun r M' => r = M 1 6 ∧ pRep (M' 1) (packL a b c (qs * 24) ps) ∧ (M' 1 6 = M 1 6 + 1 ∧ M' 1 (201 + 4 * M 1 6 + 0) = a ∧ M' 1 (201 + 4 * M 1 6 + 1) = b ∧ M' 1 (201 + 4 * M 1 6 + 2) = c ∧ M' 1 (201 + 4 * M 1 6 + 3) = qs) ∧ (∀ j, (j < 141 ∨ 201 ≤ j) → j ≠ 5 → j ≠ 6 → (j < 201 + 4 * M 1 6 ∨ 201 + 4 * M 1 6 + 3 < j) → M' 1 j = M 1 j) ∧ ∀ q, q ≠ 1 → M' q = M q) := by
  refine mInt.mk (L0 := [some (vR (ma 0)), some (vI a), some (vI b), some (vI c), some (vI qs), none, none, none]) (by decide) rfl (Nat.le_of_ble_eq_true rfl) rfl (fun C h hg hl hR X => ?_)
  subst hg hl
  have hok0 := hb0.ok hI
  have hlen := hb0.2.1
  have hI3 := mI_n hI
  refine z_iload (pc' := 2) X dX8_packs_0 rfl rfl ?_
  refine z_bipush (pc' := 4) X dX8_packs_2 rfl (by decide) ?_
  refine z_imul (pc' := 5) X dX8_packs_4 rfl ?_
  refine z_istore (pc' := 7) X dX8_packs_5 rfl (by decide) rfl ?_
  dsimp only [List.set]
  refine z_iconst (pc' := 8) X dX8_packs_7 rfl ?_
  refine z_istore (pc' := 10) X dX8_packs_8 rfl (by decide) rfl ?_
  dsimp only [List.set]
  have loop10 : ∀ (N : Nat) (lf p : Int) (Mx : MM) (D T : List Pl), (p = (D.length : Int)) → (pRep (Mx 1) (D ++ T)) → (∀ q ∈ T, okP q) → (D ++ packL a b c lf T = packL a b c (qs * 24) ps) → (0 ≤ lf ∧ lf ≤ 480 ∧ lf ≤ dryL a b c T) → (D.length + T.length ≤ 12) → (pO (M 1) (Mx 1)) → (∀ q, q ≠ 1 → Mx q = M q) → T.length < N → ZP C 8 (mF ma h (Mx)) 0 0 [some (vR (ma 0)), some (vI a), some (vI b), some (vI c), some (vI qs), some (vI lf), some (vI p), none] 10 [] := by
    intro N
    induction N with
    | zero => intro lf p Mx D T hp hb hok hf hlf hl ho hr hN; exact absurd hN (Nat.not_lt_zero _)
    | succ N ih10 =>
      intro lf p Mx D T hp hb hok hf hlf hl ho hr hN
      refine ZP.fact (P := mR (Mx)) (fun _ h => h.1.2.2.2) (fun hR10 => ?_)
      subst hp
      refine z_iload (pc' := 12) X dX8_packs_10 rfl rfl ?_
      refine z_if_le (tgt := 102) (pc' := 15) X (by first | assumption | omega) dX8_packs_12 rfl (by decide) (fun c12 => ?_) (fun c12 => ?_)
      · have h6x : Mx 1 6 = M 1 6 := ho 6 (by omega) (by decide)
        rw [packL_0 (show lf ≤ 0 by omega)] at hf
        refine z_sipush (pc' := 105) X dX8_packs_102 rfl (by decide) ?_
        refine z_iconst (pc' := 106) X dX8_packs_105 rfl ?_
        refine z_aload_n (pc' := 107) X dX8_packs_106 rfl rfl ?_
        refine z_mget (pc' := 110) X 0 rfl (by decide) q2063 rfl dX8_packs_107 rfl ?_
        refine z_bipush (pc' := 112) X dX8_packs_110 rfl (by decide) ?_
        refine z_mld (pc' := 113) X (r := 1) (by decide) (show 0 ≤ _ ∧ _ < (321 : Int) by omega) dX8_packs_112 rfl (fun hv112 => ?_)
        rw [h6x]
        rw [h6x] at hv112
        refine z_imul (pc' := 114) X dX8_packs_113 rfl ?_
        refine z_iadd (pc' := 115) X dX8_packs_114 rfl ?_
        refine z_istore (pc' := 117) X dX8_packs_115 rfl (by decide) rfl ?_
        dsimp only [List.set]
        refine z_aload_n (pc' := 118) X dX8_packs_117 rfl rfl ?_
        refine z_mget (pc' := 121) X 0 rfl (by decide) q2063 rfl dX8_packs_118 rfl ?_
        refine z_iload (pc' := 123) X dX8_packs_121 rfl rfl ?_
        refine z_iload_n (pc' := 124) X dX8_packs_123 rfl rfl ?_
        refine z_mst (pc' := 125) X (r := 1) (by decide) (show 0 ≤ _ ∧ _ < (321 : Int) by omega) (by first | assumption | omega) dX8_packs_124 rfl (fun hR124 => ?_)
        refine z_aload_n (pc' := 126) X dX8_packs_125 rfl rfl ?_
        refine z_mget (pc' := 129) X 0 rfl (by decide) q2063 rfl dX8_packs_126 rfl ?_
        refine z_iload (pc' := 131) X dX8_packs_129 rfl rfl ?_
        refine z_iconst (pc' := 132) X dX8_packs_131 rfl ?_
        refine z_iadd (pc' := 133) X dX8_packs_132 rfl ?_
        refine z_iload_n (pc' := 134) X dX8_packs_133 rfl rfl ?_
        refine z_mst (pc' := 135) X (r := 1) (by decide) (show 0 ≤ _ ∧ _ < (321 : Int) by omega) (by first | assumption | omega) dX8_packs_134 rfl (fun hR134 => ?_)
        refine z_aload_n (pc' := 136) X dX8_packs_135 rfl rfl ?_
        refine z_mget (pc' := 139) X 0 rfl (by decide) q2063 rfl dX8_packs_136 rfl ?_
        refine z_iload (pc' := 141) X dX8_packs_139 rfl rfl ?_
        refine z_iconst (pc' := 142) X dX8_packs_141 rfl ?_
        refine z_iadd (pc' := 143) X dX8_packs_142 rfl ?_
        refine z_iload_n (pc' := 144) X dX8_packs_143 rfl rfl ?_
        refine z_mst (pc' := 145) X (r := 1) (by decide) (show 0 ≤ _ ∧ _ < (321 : Int) by omega) (by first | assumption | omega) dX8_packs_144 rfl (fun hR144 => ?_)
        refine z_aload_n (pc' := 146) X dX8_packs_145 rfl rfl ?_
        refine z_mget (pc' := 149) X 0 rfl (by decide) q2063 rfl dX8_packs_146 rfl ?_
        refine z_iload (pc' := 151) X dX8_packs_149 rfl rfl ?_
        refine z_iconst (pc' := 152) X dX8_packs_151 rfl ?_
        refine z_iadd (pc' := 153) X dX8_packs_152 rfl ?_
        refine z_iload (pc' := 155) X dX8_packs_153 rfl rfl ?_
        refine z_mst (pc' := 156) X (r := 1) (by decide) (show 0 ≤ _ ∧ _ < (321 : Int) by omega) (by first | assumption | omega) dX8_packs_155 rfl (fun hR155 => ?_)
        refine z_aload_n (pc' := 157) X dX8_packs_156 rfl rfl ?_
        refine z_mget (pc' := 160) X 0 rfl (by decide) q2063 rfl dX8_packs_157 rfl ?_
        refine z_bipush (pc' := 162) X dX8_packs_160 rfl (by decide) ?_
        refine z_dup2 (pc' := 163) X rfl rfl dX8_packs_162 rfl ?_
        refine z_mld (pc' := 164) X (r := 1) (by decide) (show 0 ≤ _ ∧ _ < (321 : Int) by omega) dX8_packs_163 rfl (fun hv163 => ?_)
        have e163 : (mset (mset (mset (mset Mx 1 (201 + 4 * M 1 6) a) 1 (201 + 4 * M 1 6 + 1) b) 1 (201 + 4 * M 1 6 + 2) c) 1 (201 + 4 * M 1 6 + 3) qs) 1 6 = M 1 6 := by rw [mset_k (by omega), mset_k (by omega), mset_k (by omega), mset_k (by omega)]; exact h6x
        rw [e163]
        rw [e163] at hv163
        refine z_iconst (pc' := 165) X dX8_packs_164 rfl ?_
        refine z_iadd (pc' := 166) X dX8_packs_165 rfl ?_
        refine z_mst (pc' := 167) X (r := 1) (by decide) (show 0 ≤ _ ∧ _ < (321 : Int) by omega) (by first | assumption | omega) dX8_packs_166 rfl (fun hR166 => ?_)
        refine z_aload_n (pc' := 168) X dX8_packs_167 rfl rfl ?_
        refine z_mget (pc' := 171) X 0 rfl (by decide) q2063 rfl dX8_packs_168 rfl ?_
        refine z_bipush (pc' := 173) X dX8_packs_171 rfl (by decide) ?_
        refine z_mld (pc' := 174) X (r := 1) (by decide) (show 0 ≤ _ ∧ _ < (321 : Int) by omega) dX8_packs_173 rfl (fun hv173 => ?_)
        rw [mset_s]
        rw [mset_s] at hv173
        refine z_iconst (pc' := 175) X dX8_packs_174 rfl ?_
        refine z_isub (pc' := 176) X dX8_packs_175 rfl ?_
        refine z_ireturn X dX8_packs_176 (Nat.le_refl _) (Nat.le_refl _) (fun _ hh => ⟨_, hh, _, rfl, ?_, ?_⟩)
        · first | assumption | omega
        · refine ⟨by omega, ?_, ⟨mset_s, ?_, ?_, ?_, ?_⟩, fun j x y z w => ?_, fun q x => ?_⟩
          · rw [← hf]
            have hn5 : ∀ j, j ≠ 6 → (j < 201 + 4 * M 1 6 ∨ 201 + 4 * M 1 6 + 3 < j) → mset (mset (mset (mset (mset Mx 1 (201 + 4 * M 1 6) a) 1 (201 + 4 * M 1 6 + 1) b) 1 (201 + 4 * M 1 6 + 2) c) 1 (201 + 4 * M 1 6 + 3) qs) 1 6 (M 1 6 + 1) 1 j = Mx 1 j := fun j x y => by
              rw [mset_k x, mset_k (by omega), mset_k (by omega), mset_k (by omega), mset_k (by omega)]
            exact hb.same (hn5 5 (by decide) (by omega)) (fun j x y => hn5 j (by omega) (by omega))
          · rw [mset_k (by omega), mset_k (by omega), mset_k (by omega), mset_k (by omega), show 201 + 4 * M 1 6 + 0 = 201 + 4 * M 1 6 by omega, mset_s]
          · rw [mset_k (by omega), mset_k (by omega), mset_k (by omega), mset_s]
          · rw [mset_k (by omega), mset_k (by omega), mset_s]
          · rw [mset_k (by omega), mset_s]
          · rw [mset_k z, mset_k (by omega), mset_k (by omega), mset_k (by omega), mset_k (by omega)]; exact ho j x y
          · rw [mset_r x, mset_r x, mset_r x, mset_r x, mset_r x]; exact hr q x
      · obtain ⟨q, t, rfl⟩ : ∃ q t, T = q :: t := by
          cases T with
          | nil => exact absurd hlf.2.2 (by show ¬ lf ≤ 0; omega)
          | cons q t => exact ⟨q, t, rfl⟩
        obtain ⟨⟨e0, e1, e2, e3, e4⟩, hd1, hd2, hd3⟩ := hb.hd
        obtain ⟨k0, k1, k2, k3, k4⟩ := hok q List.mem_cons_self
        rw [dryL_c] at hlf
        have hX : 0 ≤ packX a b c lf q ∧ packX a b c lf q ≤ q.2.2.2.1 ∧ packX a b c lf q ≤ lf ∧ (lf - packX a b c lf q ≤ dryL a b c t) := by
          have hnn : lf ≤ dryX a b c q + dryL a b c t := hlf.2.2
          have hdn : 0 ≤ dryL a b c t := by
            have : ∀ (L : List Pl), (∀ z ∈ L, okP z) → 0 ≤ dryL a b c L := by
              intro L
              induction L with
              | nil => exact fun _ => Int.le_refl _
              | cons z u ih =>
                intro hz
                have h1 := ih (fun w hw => hz w (List.mem_cons_of_mem _ hw))
                obtain ⟨-, -, -, h2, -⟩ := hz z List.mem_cons_self
                rw [dryL_c]
                unfold dryX
                split <;> omega
            exact this t (fun w hw => hok w (List.mem_cons_of_mem _ hw))
          unfold dryX at hnn
          unfold packX
          split at hnn <;> rename_i hcnd
          · rw [if_pos hcnd]; omega
          · rw [if_neg hcnd]; omega
        refine z_aload_n (pc' := 16) X dX8_packs_15 rfl rfl ?_
        refine z_iload (pc' := 18) X dX8_packs_16 rfl rfl ?_
        refine z_iload_n (pc' := 19) X dX8_packs_18 rfl rfl ?_
        refine z_iload_n (pc' := 20) X dX8_packs_19 rfl rfl ?_
        refine z_iload_n (pc' := 21) X dX8_packs_20 rfl rfl ?_
        refine z_V_fun4 (pc' := 24) X rfl Y_X8_isSuch q2322 dX8_packs_21 rfl (by decide) (Nat.le_refl _) (Nat.le_refl _) (Nat.le_of_ble_eq_true rfl) (c_X8_isSuch _ _ _ _ _ _ _ _ (by first | assumption | omega) (by first | assumption | omega) (by first | assumption | omega) (by first | assumption | omega)) (fun r21 hr21 hp21 => ?_)
        refine z_if_eq (tgt := 42) (pc' := 27) X (by first | assumption | omega) dX8_packs_24 rfl (by decide) (fun c24 => ?_) (fun c24 => ?_)
        · refine z_iconst (pc' := 43) X dX8_packs_42 rfl ?_
          refine ZP.top (a' := packX a b c lf q) (by unfold packX; first | rw [if_pos (by omega)] | rw [if_neg (by omega)]) ?_
          refine z_istore (pc' := 45) X dX8_packs_43 rfl (by decide) rfl ?_
          dsimp only [List.set]
          refine z_iload (pc' := 47) X dX8_packs_45 rfl rfl ?_
          refine z_iload (pc' := 49) X dX8_packs_47 rfl rfl ?_
          refine z_isub (pc' := 50) X dX8_packs_49 rfl ?_
          refine z_istore (pc' := 52) X dX8_packs_50 rfl (by decide) rfl ?_
          dsimp only [List.set]
          refine z_aload_n (pc' := 53) X dX8_packs_52 rfl rfl ?_
          refine z_mget (pc' := 56) X 0 rfl (by decide) q2063 rfl dX8_packs_53 rfl ?_
          refine z_sipush (pc' := 59) X dX8_packs_56 rfl (by decide) ?_
          refine z_iconst (pc' := 60) X dX8_packs_59 rfl ?_
          refine z_iload (pc' := 62) X dX8_packs_60 rfl rfl ?_
          refine z_imul (pc' := 63) X dX8_packs_62 rfl ?_
          refine z_iadd (pc' := 64) X dX8_packs_63 rfl ?_
          refine z_iconst (pc' := 65) X dX8_packs_64 rfl ?_
          refine z_iadd (pc' := 66) X dX8_packs_65 rfl ?_
          refine z_dup2 (pc' := 67) X rfl rfl dX8_packs_66 rfl ?_
          refine z_mld (pc' := 68) X (r := 1) (by decide) (show 0 ≤ _ ∧ _ < (321 : Int) by omega) dX8_packs_67 rfl (fun hv67 => ?_)
          have e67 : Mx 1 (141 + 5 * (D.length : Int) + 3) = q.2.2.2.1 := e3
          rw [e67]
          refine z_iload (pc' := 70) X dX8_packs_68 rfl rfl ?_
          refine z_isub (pc' := 71) X dX8_packs_70 rfl ?_
          refine z_mst (pc' := 72) X (r := 1) (by decide) (show 0 ≤ _ ∧ _ < (321 : Int) by omega) (by first | assumption | omega) dX8_packs_71 rfl (fun hR71 => ?_)
          have hb2 := hb.sheets (z := q.2.2.2.1 - packX a b c lf q)
          have hc2 := hb2.1.hd
          refine z_aload_n (pc' := 73) X dX8_packs_72 rfl rfl ?_
          refine z_iload (pc' := 75) X dX8_packs_73 rfl rfl ?_
          refine z_iconst (pc' := 76) X dX8_packs_75 rfl ?_
          refine z_V_fun2 (pc' := 79) X rfl Y_X8_pile q2326 dX8_packs_76 rfl (by decide) (Nat.le_refl _) (Nat.le_refl _) (Nat.le_of_ble_eq_true rfl) (c_X8_pile _ _ _ _ _ _ (by first | assumption | omega) (by first | assumption | omega)) (fun r76 hr76 hp76 => ?_)
          subst hp76
          rw [mP_s]
          rw [mP_s] at hr76
          refine z_if_ne (tgt := 96) (pc' := 82) X (by first | assumption | omega) dX8_packs_79 rfl (by decide) (fun c79 => ?_) (fun c79 => ?_)
          · refine z_iinc (pc' := 99) X dX8_packs_96 rfl (by decide) rfl rfl ?_
            dsimp only [List.set]
            refine z_goto (tgt := 10) X dX8_packs_99 (by decide) ?_
            refine ZP.wk (L' := [some (vR (ma 0)), some (vI a), some (vI b), some (vI c), some (vI qs), some (vI _), some (vI _), none]) (And.intro rfl (And.intro rfl (And.intro rfl (And.intro rfl (And.intro rfl (And.intro rfl (And.intro rfl (trivial)))))))) ?_
            exact ih10 _ _ _ (D ++ [(q.1, q.2.1, q.2.2.1, q.2.2.2.1 - packX a b c lf q, q.2.2.2.2)]) t (by rw [List.length_append]; rfl) (by rw [List.append_assoc]; exact hb2.1) (by exact fun z hz => hok z (List.mem_cons_of_mem _ hz)) (by rw [List.append_assoc, ← hf, packL_c, if_neg (show ¬ lf ≤ 0 by omega), if_neg c79]; rfl) (by omega) (by rw [List.length_cons] at hl; rw [List.length_append]; show D.length + 1 + _ ≤ 12; omega) (by exact ho.tr hb2.2) (by exact fun z hz => (mset_r hz).trans (hr z hz)) (by rw [List.length_cons] at hN; omega)
          · have hb3 := hb2.1.out
            refine z_aload_n (pc' := 83) X dX8_packs_82 rfl rfl ?_
            refine z_sipush (pc' := 86) X dX8_packs_83 rfl (by decide) ?_
            refine z_iconst (pc' := 87) X dX8_packs_86 rfl ?_
            refine z_iload (pc' := 89) X dX8_packs_87 rfl rfl ?_
            refine z_iconst (pc' := 90) X dX8_packs_89 rfl ?_
            refine z_V_void4 (pc' := 93) X rfl Y_X8_takesOut q2202 dX8_packs_90 rfl (by decide) (Nat.le_refl _) (Nat.le_refl _) (Nat.le_of_ble_eq_true rfl) (c_X8_takesOut_p _ _ _ _ _ ⟨by omega, hc2.2.1⟩ hc2.2.2.1) (fun M90 hp90 hR90 => ?_)
            subst hp90
            refine z_goto (tgt := 99) X dX8_packs_93 (by decide) ?_
            refine z_goto (tgt := 10) X dX8_packs_99 (by decide) ?_
            refine ZP.wk (L' := [some (vR (ma 0)), some (vI a), some (vI b), some (vI c), some (vI qs), some (vI _), some (vI _), none]) (And.intro rfl (And.intro rfl (And.intro rfl (And.intro rfl (And.intro rfl (And.intro rfl (And.intro rfl (trivial)))))))) ?_
            exact ih10 _ _ _ D t (by rfl) (by exact hb3.1) (by exact fun z hz => hok z (List.mem_cons_of_mem _ hz)) (by rw [← hf, packL_c, if_neg (show ¬ lf ≤ 0 by omega), if_pos c79]) (by omega) (by rw [List.length_cons] at hl; omega) (by exact (ho.tr hb2.2).tr hb3.2.1) (by exact fun z hz => (hb3.2.2 z hz).trans ((mset_r hz).trans (hr z hz))) (by rw [List.length_cons] at hN; omega)
        · refine z_iload (pc' := 29) X dX8_packs_27 rfl rfl ?_
          refine z_aload_n (pc' := 30) X dX8_packs_29 rfl rfl ?_
          refine z_iload (pc' := 32) X dX8_packs_30 rfl rfl ?_
          refine z_iconst (pc' := 33) X dX8_packs_32 rfl ?_
          refine z_V_fun2 (pc' := 36) X rfl Y_X8_pile q2326 dX8_packs_33 rfl (by decide) (Nat.le_refl _) (Nat.le_refl _) (Nat.le_of_ble_eq_true rfl) (c_X8_pile _ _ _ _ _ _ (by first | assumption | omega) (by first | assumption | omega)) (fun r33 hr33 hp33 => ?_)
          subst hp33
          rw [e3]
          rw [e3] at hr33
          refine z_S_fun2 (pc' := 39) X Y_X8_least q2243 dX8_packs_36 rfl (by decide) (Nat.le_refl _) (Nat.le_refl _) (Nat.le_of_ble_eq_true rfl) (fun h _ => c_X8_least _ _ _ _ _ (by first | assumption | omega) (by first | assumption | omega)) (fun r36 hr36 hp36 => ?_)
          subst hp36
          refine z_goto (tgt := 43) X dX8_packs_39 (by decide) ?_
          refine ZP.top (a' := packX a b c lf q) (by unfold packX; first | rw [if_pos (by omega)] | rw [if_neg (by omega)]) ?_
          refine z_istore (pc' := 45) X dX8_packs_43 rfl (by decide) rfl ?_
          dsimp only [List.set]
          refine z_iload (pc' := 47) X dX8_packs_45 rfl rfl ?_
          refine z_iload (pc' := 49) X dX8_packs_47 rfl rfl ?_
          refine z_isub (pc' := 50) X dX8_packs_49 rfl ?_
          refine z_istore (pc' := 52) X dX8_packs_50 rfl (by decide) rfl ?_
          dsimp only [List.set]
          refine z_aload_n (pc' := 53) X dX8_packs_52 rfl rfl ?_
          refine z_mget (pc' := 56) X 0 rfl (by decide) q2063 rfl dX8_packs_53 rfl ?_
          refine z_sipush (pc' := 59) X dX8_packs_56 rfl (by decide) ?_
          refine z_iconst (pc' := 60) X dX8_packs_59 rfl ?_
          refine z_iload (pc' := 62) X dX8_packs_60 rfl rfl ?_
          refine z_imul (pc' := 63) X dX8_packs_62 rfl ?_
          refine z_iadd (pc' := 64) X dX8_packs_63 rfl ?_
          refine z_iconst (pc' := 65) X dX8_packs_64 rfl ?_
          refine z_iadd (pc' := 66) X dX8_packs_65 rfl ?_
          refine z_dup2 (pc' := 67) X rfl rfl dX8_packs_66 rfl ?_
          refine z_mld (pc' := 68) X (r := 1) (by decide) (show 0 ≤ _ ∧ _ < (321 : Int) by omega) dX8_packs_67 rfl (fun hv67 => ?_)
          have e67 : Mx 1 (141 + 5 * (D.length : Int) + 3) = q.2.2.2.1 := e3
          rw [e67]
          refine z_iload (pc' := 70) X dX8_packs_68 rfl rfl ?_
          refine z_isub (pc' := 71) X dX8_packs_70 rfl ?_
          refine z_mst (pc' := 72) X (r := 1) (by decide) (show 0 ≤ _ ∧ _ < (321 : Int) by omega) (by first | assumption | omega) dX8_packs_71 rfl (fun hR71 => ?_)
          have hb2 := hb.sheets (z := q.2.2.2.1 - packX a b c lf q)
          have hc2 := hb2.1.hd
          refine z_aload_n (pc' := 73) X dX8_packs_72 rfl rfl ?_
          refine z_iload (pc' := 75) X dX8_packs_73 rfl rfl ?_
          refine z_iconst (pc' := 76) X dX8_packs_75 rfl ?_
          refine z_V_fun2 (pc' := 79) X rfl Y_X8_pile q2326 dX8_packs_76 rfl (by decide) (Nat.le_refl _) (Nat.le_refl _) (Nat.le_of_ble_eq_true rfl) (c_X8_pile _ _ _ _ _ _ (by first | assumption | omega) (by first | assumption | omega)) (fun r76 hr76 hp76 => ?_)
          subst hp76
          rw [mP_s]
          rw [mP_s] at hr76
          refine z_if_ne (tgt := 96) (pc' := 82) X (by first | assumption | omega) dX8_packs_79 rfl (by decide) (fun c79 => ?_) (fun c79 => ?_)
          · refine z_iinc (pc' := 99) X dX8_packs_96 rfl (by decide) rfl rfl ?_
            dsimp only [List.set]
            refine z_goto (tgt := 10) X dX8_packs_99 (by decide) ?_
            refine ZP.wk (L' := [some (vR (ma 0)), some (vI a), some (vI b), some (vI c), some (vI qs), some (vI _), some (vI _), none]) (And.intro rfl (And.intro rfl (And.intro rfl (And.intro rfl (And.intro rfl (And.intro rfl (And.intro rfl (trivial)))))))) ?_
            exact ih10 _ _ _ (D ++ [(q.1, q.2.1, q.2.2.1, q.2.2.2.1 - packX a b c lf q, q.2.2.2.2)]) t (by rw [List.length_append]; rfl) (by rw [List.append_assoc]; exact hb2.1) (by exact fun z hz => hok z (List.mem_cons_of_mem _ hz)) (by rw [List.append_assoc, ← hf, packL_c, if_neg (show ¬ lf ≤ 0 by omega), if_neg c79]; rfl) (by omega) (by rw [List.length_cons] at hl; rw [List.length_append]; show D.length + 1 + _ ≤ 12; omega) (by exact ho.tr hb2.2) (by exact fun z hz => (mset_r hz).trans (hr z hz)) (by rw [List.length_cons] at hN; omega)
          · have hb3 := hb2.1.out
            refine z_aload_n (pc' := 83) X dX8_packs_82 rfl rfl ?_
            refine z_sipush (pc' := 86) X dX8_packs_83 rfl (by decide) ?_
            refine z_iconst (pc' := 87) X dX8_packs_86 rfl ?_
            refine z_iload (pc' := 89) X dX8_packs_87 rfl rfl ?_
            refine z_iconst (pc' := 90) X dX8_packs_89 rfl ?_
            refine z_V_void4 (pc' := 93) X rfl Y_X8_takesOut q2202 dX8_packs_90 rfl (by decide) (Nat.le_refl _) (Nat.le_refl _) (Nat.le_of_ble_eq_true rfl) (c_X8_takesOut_p _ _ _ _ _ ⟨by omega, hc2.2.1⟩ hc2.2.2.1) (fun M90 hp90 hR90 => ?_)
            subst hp90
            refine z_goto (tgt := 99) X dX8_packs_93 (by decide) ?_
            refine z_goto (tgt := 10) X dX8_packs_99 (by decide) ?_
            refine ZP.wk (L' := [some (vR (ma 0)), some (vI a), some (vI b), some (vI c), some (vI qs), some (vI _), some (vI _), none]) (And.intro rfl (And.intro rfl (And.intro rfl (And.intro rfl (And.intro rfl (And.intro rfl (And.intro rfl (trivial)))))))) ?_
            exact ih10 _ _ _ D t (by rfl) (by exact hb3.1) (by exact fun z hz => hok z (List.mem_cons_of_mem _ hz)) (by rw [← hf, packL_c, if_neg (show ¬ lf ≤ 0 by omega), if_pos c79]) (by omega) (by rw [List.length_cons] at hl; omega) (by exact (ho.tr hb2.2).tr hb3.2.1) (by exact fun z hz => (hb3.2.2 z hz).trans ((mset_r hz).trans (hr z hz))) (by rw [List.length_cons] at hN; omega)
  refine ZP.wk (L' := [some (vR (ma 0)), some (vI a), some (vI b), some (vI c), some (vI qs), some (vI _), some (vI _), none]) (And.intro rfl (And.intro rfl (And.intro rfl (And.intro rfl (And.intro rfl (And.intro rfl (And.intro rfl (trivial)))))))) ?_
  exact loop10 _ _ _ _ [] ps (by rfl) (by exact hb0) (by exact hok0) (by rfl) (by omega) (by rw [List.length_nil]; omega) (by exact pO.rf) (by exact fun q _ => rfl) (Nat.lt_succ_self _)
def mkAll (M : MM) (v m n : Int) : Int := n * ((100 - mPts M v m) / 4) + mMo M m 2
def mkSome (M : MM) (v m n : Int) : Int := n - mkAll M v m n / 100
def mkGr (p : Int) : Int := if 60 ≤ p then 0 else if 45 ≤ p then 1 else 2
theorem mk_b {M : MM} (hI : mI M) {v m n : Int} (hv : 0 ≤ v ∧ v < 3) (hm : 0 ≤ m ∧ m < 5) (hn : 1 ≤ n ∧ n ≤ 480) (hp : 30 ≤ mPts M v m) : (4 ≤ (100 - mPts M v m) / 4 ∧ (100 - mPts M v m) / 4 ≤ 17) ∧ (0 ≤ mkAll M v m n ∧ mkAll M v m n ≤ 10000) ∧ (0 ≤ mkSome M v m n ∧ mkSome M v m n ≤ n) := by
  have h1 := mPts_b hI hv hm
  have h2 := mI_m hI hm
  have h3 : 4 ≤ (100 - mPts M v m) / 4 ∧ (100 - mPts M v m) / 4 ≤ 17 := by omega
  have h4 := mulb (a := n) (b := (100 - mPts M v m) / 4) (A := 480) (B := 17) (by omega) (by omega)
  have h5 : n * ((100 - mPts M v m) / 4) ≤ n * 17 := Int.mul_le_mul_of_nonneg_left h3.2 (by omega)
  unfold mkSome mkAll
  omega
end M8

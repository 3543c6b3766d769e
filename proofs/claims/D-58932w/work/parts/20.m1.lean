/-! THE MODEL: small methods -/
section M1
/-- entries of now -/
def mB (M : MM) (p w : Int) : Int := M 1 (21 + 4 * p + w)
def mP (M : MM) (p w : Int) : Int := M 1 (141 + 5 * p + w)
def mRm (M : MM) (p w : Int) : Int := M 1 (201 + 4 * p + w)
def mDebt (M : MM) (c : Int) : Int := M 1 (13 + 2 * c)
def mPass (M : MM) (c : Int) : Int := M 1 (13 + 2 * c + 1)
def mU (M : MM) (v : Int) : Int := M 1 (117 + 3 * v)
def mV (M : MM) (v w : Int) : Int := M 1 (117 + 3 * v + w)
def mMk (M : MM) (v : Int) : Int := M 1 (126 + 3 * v)
def mMo (M : MM) (v w : Int) : Int := M 1 (126 + 3 * v + w)
theorem mB_R {M : MM} (h : mR M) (p w : Int) : rng (mB M p w) := h 1 _
theorem mP_R {M : MM} (h : mR M) (p w : Int) : rng (mP M p w) := h 1 _
theorem mRm_R {M : MM} (h : mR M) (p w : Int) : rng (mRm M p w) := h 1 _
/-- the bounds of the numbers of a row like now -/
def okN (N : Int → Int) : Prop :=
  ((0 ≤ N 4 ∧ N 4 ≤ 24) ∧ (0 ≤ N 5 ∧ N 5 ≤ 12) ∧ (0 ≤ N 6 ∧ N 6 ≤ 30)) ∧
  ((0 ≤ N 0 ∧ N 0 ≤ 2000) ∧ (0 ≤ N 1 ∧ N 1 ≤ 1000000) ∧ (0 ≤ N 2 ∧ N 2 ≤ 3) ∧ (0 ≤ N 3 ∧ N 3 ≤ 99) ∧ (0 ≤ N 7 ∧ N 7 ≤ 10000000)) ∧
  ((0 ≤ N 8 ∧ N 8 ≤ 2000000) ∧ (0 ≤ N 9 ∧ N 9 ≤ 2000000) ∧ (0 ≤ N 10 ∧ N 10 ≤ 2000000) ∧ (0 ≤ N 11 ∧ N 11 ≤ 2000000) ∧ 1 ≤ N 8 + N 9 + N 10 + N 11 ∧ (0 ≤ N 12 ∧ N 12 ≤ 4)) ∧
  (∀ c, 0 ≤ c → c < 4 → (0 ≤ N (13 + 2 * c) ∧ N (13 + 2 * c) ≤ 300) ∧ (-1 ≤ N (13 + 2 * c + 1) ∧ N (13 + 2 * c + 1) ≤ 2100)) ∧
  (∀ p, 0 ≤ p → p < N 4 → (0 ≤ N (21 + 4 * p + 0) ∧ N (21 + 4 * p + 0) ≤ 3) ∧ (0 ≤ N (21 + 4 * p + 1) ∧ N (21 + 4 * p + 1) ≤ 300) ∧ (0 ≤ N (21 + 4 * p + 2) ∧ N (21 + 4 * p + 2) ≤ 99) ∧ (-1 ≤ N (21 + 4 * p + 3) ∧ N (21 + 4 * p + 3) ≤ 4)) ∧
  (∀ v, 0 ≤ v → v < 3 → (0 ≤ N (117 + 3 * v) ∧ N (117 + 3 * v) ≤ 8000) ∧ (0 ≤ N (117 + 3 * v + 1) ∧ N (117 + 3 * v + 1) ≤ 48) ∧ (0 ≤ N (117 + 3 * v + 2) ∧ N (117 + 3 * v + 2) ≤ 60)) ∧
  (∀ v, 0 ≤ v → v < 5 → (0 ≤ N (126 + 3 * v) ∧ N (126 + 3 * v) ≤ 9) ∧ (0 ≤ N (126 + 3 * v + 1) ∧ N (126 + 3 * v + 1) ≤ 2000) ∧ (0 ≤ N (126 + 3 * v + 2) ∧ N (126 + 3 * v + 2) ≤ 99)) ∧
  (∀ p, 0 ≤ p → p < N 5 → (0 ≤ N (141 + 5 * p + 0) ∧ N (141 + 5 * p + 0) ≤ 9) ∧ (0 ≤ N (141 + 5 * p + 1) ∧ N (141 + 5 * p + 1) ≤ 2) ∧ (0 ≤ N (141 + 5 * p + 2) ∧ N (141 + 5 * p + 2) ≤ 2) ∧ (0 ≤ N (141 + 5 * p + 3) ∧ N (141 + 5 * p + 3) ≤ 480) ∧ (0 ≤ N (141 + 5 * p + 4) ∧ N (141 + 5 * p + 4) ≤ 2000)) ∧
  (∀ p, 0 ≤ p → p < N 6 → (0 ≤ N (201 + 4 * p + 0) ∧ N (201 + 4 * p + 0) ≤ 9) ∧ (0 ≤ N (201 + 4 * p + 1) ∧ N (201 + 4 * p + 1) ≤ 2) ∧ (0 ≤ N (201 + 4 * p + 2) ∧ N (201 + 4 * p + 2) ≤ 2) ∧ (0 ≤ N (201 + 4 * p + 3) ∧ N (201 + 4 * p + 3) ≤ 20))
abbrev mI (M : MM) : Prop := okN (M 1)
theorem mI_n {M : MM} (h : mI M) : (0 ≤ M 1 4 ∧ M 1 4 ≤ 24) ∧ (0 ≤ M 1 5 ∧ M 1 5 ≤ 12) ∧ (0 ≤ M 1 6 ∧ M 1 6 ≤ 30) := h.1
theorem mI_s {M : MM} (h : mI M) : (0 ≤ M 1 0 ∧ M 1 0 ≤ 2000) ∧ (0 ≤ M 1 1 ∧ M 1 1 ≤ 1000000) ∧ (0 ≤ M 1 2 ∧ M 1 2 ≤ 3) ∧ (0 ≤ M 1 3 ∧ M 1 3 ≤ 99) ∧ (0 ≤ M 1 7 ∧ M 1 7 ≤ 10000000) := h.2.1
theorem mI_r {M : MM} (h : mI M) : (0 ≤ M 1 8 ∧ M 1 8 ≤ 2000000) ∧ (0 ≤ M 1 9 ∧ M 1 9 ≤ 2000000) ∧ (0 ≤ M 1 10 ∧ M 1 10 ≤ 2000000) ∧ (0 ≤ M 1 11 ∧ M 1 11 ≤ 2000000) ∧ 1 ≤ M 1 8 + M 1 9 + M 1 10 + M 1 11 ∧ (0 ≤ M 1 12 ∧ M 1 12 ≤ 4) := h.2.2.1
theorem mI_c {M : MM} (h : mI M) {c : Int} (h0 : 0 ≤ c ∧ c < 4) : (0 ≤ mDebt M c ∧ mDebt M c ≤ 300) ∧ (-1 ≤ mPass M c ∧ mPass M c ≤ 2100) := h.2.2.2.1 c h0.1 h0.2
theorem mI_b {M : MM} (h : mI M) {p : Int} (h0 : 0 ≤ p ∧ p < M 1 4) : (0 ≤ mB M p 0 ∧ mB M p 0 ≤ 3) ∧ (0 ≤ mB M p 1 ∧ mB M p 1 ≤ 300) ∧ (0 ≤ mB M p 2 ∧ mB M p 2 ≤ 99) ∧ (-1 ≤ mB M p 3 ∧ mB M p 3 ≤ 4) := h.2.2.2.2.1 p h0.1 h0.2
theorem mI_v {M : MM} (h : mI M) {v : Int} (h0 : 0 ≤ v ∧ v < 3) : (0 ≤ mU M v ∧ mU M v ≤ 8000) ∧ (0 ≤ mV M v 1 ∧ mV M v 1 ≤ 48) ∧ (0 ≤ mV M v 2 ∧ mV M v 2 ≤ 60) := h.2.2.2.2.2.1 v h0.1 h0.2
theorem mI_m {M : MM} (h : mI M) {v : Int} (h0 : 0 ≤ v ∧ v < 5) : (0 ≤ mMk M v ∧ mMk M v ≤ 9) ∧ (0 ≤ mMo M v 1 ∧ mMo M v 1 ≤ 2000) ∧ (0 ≤ mMo M v 2 ∧ mMo M v 2 ≤ 99) := h.2.2.2.2.2.2.1 v h0.1 h0.2
theorem mI_p {M : MM} (h : mI M) {p : Int} (h0 : 0 ≤ p ∧ p < M 1 5) : (0 ≤ mP M p 0 ∧ mP M p 0 ≤ 9) ∧ (0 ≤ mP M p 1 ∧ mP M p 1 ≤ 2) ∧ (0 ≤ mP M p 2 ∧ mP M p 2 ≤ 2) ∧ (0 ≤ mP M p 3 ∧ mP M p 3 ≤ 480) ∧ (0 ≤ mP M p 4 ∧ mP M p 4 ≤ 2000) := h.2.2.2.2.2.2.2.1 p h0.1 h0.2
theorem mI_q {M : MM} (h : mI M) {p : Int} (h0 : 0 ≤ p ∧ p < M 1 6) : (0 ≤ mRm M p 0 ∧ mRm M p 0 ≤ 9) ∧ (0 ≤ mRm M p 1 ∧ mRm M p 1 ≤ 2) ∧ (0 ≤ mRm M p 2 ∧ mRm M p 2 ≤ 2) ∧ (0 ≤ mRm M p 3 ∧ mRm M p 3 ≤ 20) := h.2.2.2.2.2.2.2.2 p h0.1 h0.2
/-- a sum over the places below k -/
def zsumN (f : Int → Int) : Nat → Int
  | 0 => 0
  | n + 1 => zsumN f n + f n
def zsum (f : Int → Int) (k : Int) : Int := zsumN f k.toNat
theorem zsum_0 (f : Int → Int) : zsum f 0 = 0 := rfl
theorem zsum_s {f : Int → Int} {k : Int} (h : 0 ≤ k) : zsum f (k + 1) = zsum f k + f k := by
  obtain ⟨n, rfl⟩ : ∃ n : Nat, k = n := ⟨k.toNat, by omega⟩
  unfold zsum
  rw [show ((n : Int) + 1).toNat = n + 1 by omega, show ((n : Int)).toNat = n by omega]
  rfl
theorem zsum_le {f : Int → Int} {k b : Int} (hk : 0 ≤ k) (h : ∀ j, 0 ≤ j → j < k → 0 ≤ f j ∧ f j ≤ b) : 0 ≤ zsum f k ∧ zsum f k ≤ b * k := by
  obtain ⟨n, rfl⟩ : ∃ n : Nat, k = n := ⟨k.toNat, by omega⟩
  induction n with
  | zero => rw [show ((0 : Nat) : Int) = 0 from rfl, zsum_0]; omega
  | succ n ih =>
    have h1 := ih (by omega) (fun j a c => h j a (by omega))
    have h2 := h n (by omega) (by omega)
    rw [show ((n + 1 : Nat) : Int) = (n : Int) + 1 by omega, zsum_s (by omega), Int.mul_add]
    omega
theorem Y_X8_in : zYS yX8_in cX8_in 3 (some .boolean) 3 := ⟨⟨q2124, q132, q2125⟩, by decide +kernel, by decide⟩
set_option maxRecDepth 100000 in
theorem c_X8_in (l : Launch) (g : zG) (h : GH) (v lo hi : Int) (hv : rng v) (hlo : rng lo) (hhi : rng hi) : zFun l yX8_in cX8_in 3 (some .boolean) 1 [vI v, vI lo, vI hi] g h (fun r => (r = 1 ∧ (lo ≤ v ∧ v ≤ hi)) ∨ (r = 0 ∧ ¬ (lo ≤ v ∧ v ≤ hi))) := by
  refine zFun.mk (L0 := [some (vI v), some (vI lo), some (vI hi)]) (by decide) rfl (Nat.le_of_ble_eq_true rfl) rfl (fun C hg hl X => ?_)
  subst hg hl
  refine z_iload_n (pc' := 1) X dX8_in_0 rfl rfl ?_
  refine z_iload_n (pc' := 2) X dX8_in_1 rfl rfl ?_
  refine z_icmp_lt (tgt := 14) (pc' := 5) X (by first | assumption | omega) (by first | assumption | omega) dX8_in_2 rfl (by decide) (fun c2 => ?_) (fun c2 => ?_)
  · refine z_iconst (pc' := 15) X dX8_in_14 rfl ?_
    refine z_zreturn X dX8_in_15 (by first | exact nar_0 | exact nar_1 | exact nar_b (by omega)) (Nat.le_refl _) (Nat.le_refl _) (fun _ hh => ⟨hh, _, rfl, ?_, ?_⟩)
    · first | assumption | omega
    · first | rfl | omega
  · refine z_iload_n (pc' := 6) X dX8_in_5 rfl rfl ?_
    refine z_iload_n (pc' := 7) X dX8_in_6 rfl rfl ?_
    refine z_icmp_gt (tgt := 14) (pc' := 10) X (by first | assumption | omega) (by first | assumption | omega) dX8_in_7 rfl (by decide) (fun c7 => ?_) (fun c7 => ?_)
    · refine z_iconst (pc' := 15) X dX8_in_14 rfl ?_
      refine z_zreturn X dX8_in_15 (by first | exact nar_0 | exact nar_1 | exact nar_b (by omega)) (Nat.le_refl _) (Nat.le_refl _) (fun _ hh => ⟨hh, _, rfl, ?_, ?_⟩)
      · first | assumption | omega
      · first | rfl | omega
    · refine z_iconst (pc' := 11) X dX8_in_10 rfl ?_
      refine z_goto (tgt := 15) X dX8_in_11 (by decide) ?_
      refine z_zreturn X dX8_in_15 (by first | exact nar_0 | exact nar_1 | exact nar_b (by omega)) (Nat.le_refl _) (Nat.le_refl _) (fun _ hh => ⟨hh, _, rfl, ?_, ?_⟩)
      · first | assumption | omega
      · first | rfl | omega
theorem Y_X8_least : zYS yX8_least cX8_least 2 (some .int) 2 := ⟨⟨q2244, q132, q2245⟩, by decide +kernel, by decide⟩
set_option maxRecDepth 100000 in
theorem c_X8_least (l : Launch) (g : zG) (h : GH) (a b : Int) (ha : rng a) (hb : rng b) : zFun l yX8_least cX8_least 2 (some .int) 1 [vI a, vI b] g h (fun r => r = min a b) := by
  refine zFun.mk (L0 := [some (vI a), some (vI b)]) (by decide) rfl (Nat.le_of_ble_eq_true rfl) rfl (fun C hg hl X => ?_)
  subst hg hl
  refine z_iload_n (pc' := 1) X dX8_least_0 rfl rfl ?_
  refine z_iload_n (pc' := 2) X dX8_least_1 rfl rfl ?_
  refine z_icmp_ge (tgt := 9) (pc' := 5) X (by first | assumption | omega) (by first | assumption | omega) dX8_least_2 rfl (by decide) (fun c2 => ?_) (fun c2 => ?_)
  · refine z_iload_n (pc' := 10) X dX8_least_9 rfl rfl ?_
    refine z_ireturn X dX8_least_10 (Nat.le_refl _) (Nat.le_refl _) (fun _ hh => ⟨hh, _, rfl, ?_, ?_⟩)
    · first | assumption | omega
    · first | rfl | omega
  · refine z_iload_n (pc' := 6) X dX8_least_5 rfl rfl ?_
    refine z_goto (tgt := 10) X dX8_least_6 (by decide) ?_
    refine z_ireturn X dX8_least_10 (Nat.le_refl _) (Nat.le_refl _) (fun _ hh => ⟨hh, _, rfl, ?_, ?_⟩)
    · first | assumption | omega
    · first | rfl | omega
theorem Y_X8_isCarter : zYS yX8_isCarter cX8_isCarter 1 (some .boolean) 1 := ⟨⟨q2121, q132, q2122⟩, by decide +kernel, by decide⟩
set_option maxRecDepth 100000 in
theorem c_X8_isCarter (l : Launch) (g : zG) (h : GH) (v : Int) (hv : rng v) : zFun l yX8_isCarter cX8_isCarter 1 (some .boolean) 2 [vI v] g h (fun r => (r = 1 ∧ (0 ≤ v ∧ v ≤ 3)) ∨ (r = 0 ∧ ¬ (0 ≤ v ∧ v ≤ 3))) := by
  refine zFun.mk (L0 := [some (vI v)]) (by decide) rfl (Nat.le_of_ble_eq_true rfl) rfl (fun C hg hl X => ?_)
  subst hg hl
  refine z_iload_n (pc' := 1) X dX8_isCarter_0 rfl rfl ?_
  refine z_iconst (pc' := 2) X dX8_isCarter_1 rfl ?_
  refine z_iconst (pc' := 3) X dX8_isCarter_2 rfl ?_
  refine z_S_fun3 (pc' := 6) X Y_X8_in q2123 dX8_isCarter_3 rfl (by decide) (Nat.le_refl _) (Nat.le_refl _) (Nat.le_of_ble_eq_true rfl) (fun h _ => c_X8_in _ _ _ _ _ _ (by first | assumption | omega) (by first | assumption | omega) (by first | assumption | omega)) (fun r3 hr3 hp3 => ?_)
  refine z_zreturn X dX8_isCarter_6 (by first | exact nar_0 | exact nar_1 | exact nar_b (by omega)) (Nat.le_refl _) (Nat.le_refl _) (fun _ hh => ⟨hh, _, rfl, ?_, ?_⟩)
  · first | assumption | omega
  · first | rfl | omega
theorem Y_X8_isSort : zYS yX8_isSort cX8_isSort 1 (some .boolean) 1 := ⟨⟨q2127, q132, q2128⟩, by decide +kernel, by decide⟩
set_option maxRecDepth 100000 in
theorem c_X8_isSort (l : Launch) (g : zG) (h : GH) (v : Int) (hv : rng v) : zFun l yX8_isSort cX8_isSort 1 (some .boolean) 2 [vI v] g h (fun r => (r = 1 ∧ (0 ≤ v ∧ v ≤ 3)) ∨ (r = 0 ∧ ¬ (0 ≤ v ∧ v ≤ 3))) := by
  refine zFun.mk (L0 := [some (vI v)]) (by decide) rfl (Nat.le_of_ble_eq_true rfl) rfl (fun C hg hl X => ?_)
  subst hg hl
  refine z_iload_n (pc' := 1) X dX8_isSort_0 rfl rfl ?_
  refine z_iconst (pc' := 2) X dX8_isSort_1 rfl ?_
  refine z_iconst (pc' := 3) X dX8_isSort_2 rfl ?_
  refine z_S_fun3 (pc' := 6) X Y_X8_in q2123 dX8_isSort_3 rfl (by decide) (Nat.le_refl _) (Nat.le_refl _) (Nat.le_of_ble_eq_true rfl) (fun h _ => c_X8_in _ _ _ _ _ _ (by first | assumption | omega) (by first | assumption | omega) (by first | assumption | omega)) (fun r3 hr3 hp3 => ?_)
  refine z_zreturn X dX8_isSort_6 (by first | exact nar_0 | exact nar_1 | exact nar_b (by omega)) (Nat.le_refl _) (Nat.le_refl _) (fun _ hh => ⟨hh, _, rfl, ?_, ?_⟩)
  · first | assumption | omega
  · first | rfl | omega
theorem Y_X8_isVat : zYS yX8_isVat cX8_isVat 1 (some .boolean) 1 := ⟨⟨q2211, q132, q2212⟩, by decide +kernel, by decide⟩
set_option maxRecDepth 100000 in
theorem c_X8_isVat (l : Launch) (g : zG) (h : GH) (v : Int) (hv : rng v) : zFun l yX8_isVat cX8_isVat 1 (some .boolean) 2 [vI v] g h (fun r => (r = 1 ∧ (0 ≤ v ∧ v ≤ 2)) ∨ (r = 0 ∧ ¬ (0 ≤ v ∧ v ≤ 2))) := by
  refine zFun.mk (L0 := [some (vI v)]) (by decide) rfl (Nat.le_of_ble_eq_true rfl) rfl (fun C hg hl X => ?_)
  subst hg hl
  refine z_iload_n (pc' := 1) X dX8_isVat_0 rfl rfl ?_
  refine z_iconst (pc' := 2) X dX8_isVat_1 rfl ?_
  refine z_iconst (pc' := 3) X dX8_isVat_2 rfl ?_
  refine z_S_fun3 (pc' := 6) X Y_X8_in q2123 dX8_isVat_3 rfl (by decide) (Nat.le_refl _) (Nat.le_refl _) (Nat.le_of_ble_eq_true rfl) (fun h _ => c_X8_in _ _ _ _ _ _ (by first | assumption | omega) (by first | assumption | omega) (by first | assumption | omega)) (fun r3 hr3 hp3 => ?_)
  refine z_zreturn X dX8_isVat_6 (by first | exact nar_0 | exact nar_1 | exact nar_b (by omega)) (Nat.le_refl _) (Nat.le_refl _) (fun _ hh => ⟨hh, _, rfl, ?_, ?_⟩)
  · first | assumption | omega
  · first | rfl | omega
theorem Y_X8_isMould : zYS yX8_isMould cX8_isMould 1 (some .boolean) 1 := ⟨⟨q2271, q132, q2272⟩, by decide +kernel, by decide⟩
set_option maxRecDepth 100000 in
theorem c_X8_isMould (l : Launch) (g : zG) (h : GH) (v : Int) (hv : rng v) : zFun l yX8_isMould cX8_isMould 1 (some .boolean) 2 [vI v] g h (fun r => (r = 1 ∧ (0 ≤ v ∧ v ≤ 4)) ∨ (r = 0 ∧ ¬ (0 ≤ v ∧ v ≤ 4))) := by
  refine zFun.mk (L0 := [some (vI v)]) (by decide) rfl (Nat.le_of_ble_eq_true rfl) rfl (fun C hg hl X => ?_)
  subst hg hl
  refine z_iload_n (pc' := 1) X dX8_isMould_0 rfl rfl ?_
  refine z_iconst (pc' := 2) X dX8_isMould_1 rfl ?_
  refine z_iconst (pc' := 3) X dX8_isMould_2 rfl ?_
  refine z_S_fun3 (pc' := 6) X Y_X8_in q2123 dX8_isMould_3 rfl (by decide) (Nat.le_refl _) (Nat.le_refl _) (Nat.le_of_ble_eq_true rfl) (fun h _ => c_X8_in _ _ _ _ _ _ (by first | assumption | omega) (by first | assumption | omega) (by first | assumption | omega)) (fun r3 hr3 hp3 => ?_)
  refine z_zreturn X dX8_isMould_6 (by first | exact nar_0 | exact nar_1 | exact nar_b (by omega)) (Nat.le_refl _) (Nat.le_refl _) (fun _ hh => ⟨hh, _, rfl, ?_, ?_⟩)
  · first | assumption | omega
  · first | rfl | omega
theorem Y_X8_isWeight : zYS yX8_isWeight cX8_isWeight 1 (some .boolean) 1 := ⟨⟨q2130, q132, q2131⟩, by decide +kernel, by decide⟩
set_option maxRecDepth 100000 in
theorem c_X8_isWeight (l : Launch) (g : zG) (h : GH) (v : Int) (hv : rng v) : zFun l yX8_isWeight cX8_isWeight 1 (some .boolean) 2 [vI v] g h (fun r => (r = 1 ∧ (10 ≤ v ∧ v ≤ 300)) ∨ (r = 0 ∧ ¬ (10 ≤ v ∧ v ≤ 300))) := by
  refine zFun.mk (L0 := [some (vI v)]) (by decide) rfl (Nat.le_of_ble_eq_true rfl) rfl (fun C hg hl X => ?_)
  subst hg hl
  refine z_iload_n (pc' := 1) X dX8_isWeight_0 rfl rfl ?_
  refine z_bipush (pc' := 3) X dX8_isWeight_1 rfl (by decide) ?_
  refine z_sipush (pc' := 6) X dX8_isWeight_3 rfl (by decide) ?_
  refine z_S_fun3 (pc' := 9) X Y_X8_in q2123 dX8_isWeight_6 rfl (by decide) (Nat.le_refl _) (Nat.le_refl _) (Nat.le_of_ble_eq_true rfl) (fun h _ => c_X8_in _ _ _ _ _ _ (by first | assumption | omega) (by first | assumption | omega) (by first | assumption | omega)) (fun r6 hr6 hp6 => ?_)
  refine z_zreturn X dX8_isWeight_9 (by first | exact nar_0 | exact nar_1 | exact nar_b (by omega)) (Nat.le_refl _) (Nat.le_refl _) (fun _ hh => ⟨hh, _, rfl, ?_, ?_⟩)
  · first | assumption | omega
  · first | rfl | omega
theorem Y_X8_isDamp : zYS yX8_isDamp cX8_isDamp 1 (some .boolean) 1 := ⟨⟨q2133, q132, q2134⟩, by decide +kernel, by decide⟩
set_option maxRecDepth 100000 in
theorem c_X8_isDamp (l : Launch) (g : zG) (h : GH) (v : Int) (hv : rng v) : zFun l yX8_isDamp cX8_isDamp 1 (some .boolean) 2 [vI v] g h (fun r => (r = 1 ∧ (0 ≤ v ∧ v ≤ 99)) ∨ (r = 0 ∧ ¬ (0 ≤ v ∧ v ≤ 99))) := by
  refine zFun.mk (L0 := [some (vI v)]) (by decide) rfl (Nat.le_of_ble_eq_true rfl) rfl (fun C hg hl X => ?_)
  subst hg hl
  refine z_iload_n (pc' := 1) X dX8_isDamp_0 rfl rfl ?_
  refine z_iconst (pc' := 2) X dX8_isDamp_1 rfl ?_
  refine z_bipush (pc' := 4) X dX8_isDamp_2 rfl (by decide) ?_
  refine z_S_fun3 (pc' := 7) X Y_X8_in q2123 dX8_isDamp_4 rfl (by decide) (Nat.le_refl _) (Nat.le_refl _) (Nat.le_of_ble_eq_true rfl) (fun h _ => c_X8_in _ _ _ _ _ _ (by first | assumption | omega) (by first | assumption | omega) (by first | assumption | omega)) (fun r4 hr4 hp4 => ?_)
  refine z_zreturn X dX8_isDamp_7 (by first | exact nar_0 | exact nar_1 | exact nar_b (by omega)) (Nat.le_refl _) (Nat.le_refl _) (fun _ hh => ⟨hh, _, rfl, ?_, ?_⟩)
  · first | assumption | omega
  · first | rfl | omega
theorem Y_X8_isPounds : zYS yX8_isPounds cX8_isPounds 1 (some .boolean) 1 := ⟨⟨q2214, q132, q2215⟩, by decide +kernel, by decide⟩
set_option maxRecDepth 100000 in
theorem c_X8_isPounds (l : Launch) (g : zG) (h : GH) (v : Int) (hv : rng v) : zFun l yX8_isPounds cX8_isPounds 1 (some .boolean) 2 [vI v] g h (fun r => (r = 1 ∧ (1 ≤ v ∧ v ≤ 200)) ∨ (r = 0 ∧ ¬ (1 ≤ v ∧ v ≤ 200))) := by
  refine zFun.mk (L0 := [some (vI v)]) (by decide) rfl (Nat.le_of_ble_eq_true rfl) rfl (fun C hg hl X => ?_)
  subst hg hl
  refine z_iload_n (pc' := 1) X dX8_isPounds_0 rfl rfl ?_
  refine z_iconst (pc' := 2) X dX8_isPounds_1 rfl ?_
  refine z_sipush (pc' := 5) X dX8_isPounds_2 rfl (by decide) ?_
  refine z_S_fun3 (pc' := 8) X Y_X8_in q2123 dX8_isPounds_5 rfl (by decide) (Nat.le_refl _) (Nat.le_refl _) (Nat.le_of_ble_eq_true rfl) (fun h _ => c_X8_in _ _ _ _ _ _ (by first | assumption | omega) (by first | assumption | omega) (by first | assumption | omega)) (fun r5 hr5 hp5 => ?_)
  refine z_zreturn X dX8_isPounds_8 (by first | exact nar_0 | exact nar_1 | exact nar_b (by omega)) (Nat.le_refl _) (Nat.le_refl _) (fun _ hh => ⟨hh, _, rfl, ?_, ?_⟩)
  · first | assumption | omega
  · first | rfl | omega
theorem Y_X8_isSheets : zYS yX8_isSheets cX8_isSheets 1 (some .boolean) 1 := ⟨⟨q2290, q132, q2291⟩, by decide +kernel, by decide⟩
set_option maxRecDepth 100000 in
theorem c_X8_isSheets (l : Launch) (g : zG) (h : GH) (v : Int) (hv : rng v) : zFun l yX8_isSheets cX8_isSheets 1 (some .boolean) 2 [vI v] g h (fun r => (r = 1 ∧ (1 ≤ v ∧ v ≤ 480)) ∨ (r = 0 ∧ ¬ (1 ≤ v ∧ v ≤ 480))) := by
  refine zFun.mk (L0 := [some (vI v)]) (by decide) rfl (Nat.le_of_ble_eq_true rfl) rfl (fun C hg hl X => ?_)
  subst hg hl
  refine z_iload_n (pc' := 1) X dX8_isSheets_0 rfl rfl ?_
  refine z_iconst (pc' := 2) X dX8_isSheets_1 rfl ?_
  refine z_sipush (pc' := 5) X dX8_isSheets_2 rfl (by decide) ?_
  refine z_S_fun3 (pc' := 8) X Y_X8_in q2123 dX8_isSheets_5 rfl (by decide) (Nat.le_refl _) (Nat.le_refl _) (Nat.le_of_ble_eq_true rfl) (fun h _ => c_X8_in _ _ _ _ _ _ (by first | assumption | omega) (by first | assumption | omega) (by first | assumption | omega)) (fun r5 hr5 hp5 => ?_)
  refine z_zreturn X dX8_isSheets_8 (by first | exact nar_0 | exact nar_1 | exact nar_b (by omega)) (Nat.le_refl _) (Nat.le_refl _) (fun _ hh => ⟨hh, _, rfl, ?_, ?_⟩)
  · first | assumption | omega
  · first | rfl | omega
theorem Y_X8_isPaper : zYS yX8_isPaper cX8_isPaper 3 (some .boolean) 3 := ⟨⟨q2312, q132, q2313⟩, by decide +kernel, by decide⟩
set_option maxRecDepth 100000 in
theorem c_X8_isPaper (l : Launch) (g : zG) (h : GH) (a b c : Int) (ha : rng a) (hb : rng b) (hc : rng c) : zFun l yX8_isPaper cX8_isPaper 3 (some .boolean) 2 [vI a, vI b, vI c] g h (fun r => (r = 1 ∧ ((0 ≤ a ∧ a ≤ 9) ∧ (0 ≤ b ∧ b ≤ 2) ∧ (0 ≤ c ∧ c ≤ 2))) ∨ (r = 0 ∧ ¬ ((0 ≤ a ∧ a ≤ 9) ∧ (0 ≤ b ∧ b ≤ 2) ∧ (0 ≤ c ∧ c ≤ 2)))) := by
  refine zFun.mk (L0 := [some (vI a), some (vI b), some (vI c)]) (by decide) rfl (Nat.le_of_ble_eq_true rfl) rfl (fun C hg hl X => ?_)
  subst hg hl
  refine z_iload_n (pc' := 1) X dX8_isPaper_0 rfl rfl ?_
  refine z_iconst (pc' := 2) X dX8_isPaper_1 rfl ?_
  refine z_bipush (pc' := 4) X dX8_isPaper_2 rfl (by decide) ?_
  refine z_S_fun3 (pc' := 7) X Y_X8_in q2123 dX8_isPaper_4 rfl (by decide) (Nat.le_refl _) (Nat.le_refl _) (Nat.le_of_ble_eq_true rfl) (fun h _ => c_X8_in _ _ _ _ _ _ (by first | assumption | omega) (by first | assumption | omega) (by first | assumption | omega)) (fun r4 hr4 hp4 => ?_)
  refine z_if_eq (tgt := 32) (pc' := 10) X (by first | assumption | omega) dX8_isPaper_7 rfl (by decide) (fun c7 => ?_) (fun c7 => ?_)
  · refine z_iconst (pc' := 33) X dX8_isPaper_32 rfl ?_
    refine z_zreturn X dX8_isPaper_33 (by first | exact nar_0 | exact nar_1 | exact nar_b (by omega)) (Nat.le_refl _) (Nat.le_refl _) (fun _ hh => ⟨hh, _, rfl, ?_, ?_⟩)
    · first | assumption | omega
    · first | rfl | omega
  · refine z_iload_n (pc' := 11) X dX8_isPaper_10 rfl rfl ?_
    refine z_iconst (pc' := 12) X dX8_isPaper_11 rfl ?_
    refine z_iconst (pc' := 13) X dX8_isPaper_12 rfl ?_
    refine z_S_fun3 (pc' := 16) X Y_X8_in q2123 dX8_isPaper_13 rfl (by decide) (Nat.le_refl _) (Nat.le_refl _) (Nat.le_of_ble_eq_true rfl) (fun h _ => c_X8_in _ _ _ _ _ _ (by first | assumption | omega) (by first | assumption | omega) (by first | assumption | omega)) (fun r13 hr13 hp13 => ?_)
    refine z_if_eq (tgt := 32) (pc' := 19) X (by first | assumption | omega) dX8_isPaper_16 rfl (by decide) (fun c16 => ?_) (fun c16 => ?_)
    · refine z_iconst (pc' := 33) X dX8_isPaper_32 rfl ?_
      refine z_zreturn X dX8_isPaper_33 (by first | exact nar_0 | exact nar_1 | exact nar_b (by omega)) (Nat.le_refl _) (Nat.le_refl _) (fun _ hh => ⟨hh, _, rfl, ?_, ?_⟩)
      · first | assumption | omega
      · first | rfl | omega
    · refine z_iload_n (pc' := 20) X dX8_isPaper_19 rfl rfl ?_
      refine z_iconst (pc' := 21) X dX8_isPaper_20 rfl ?_
      refine z_iconst (pc' := 22) X dX8_isPaper_21 rfl ?_
      refine z_S_fun3 (pc' := 25) X Y_X8_in q2123 dX8_isPaper_22 rfl (by decide) (Nat.le_refl _) (Nat.le_refl _) (Nat.le_of_ble_eq_true rfl) (fun h _ => c_X8_in _ _ _ _ _ _ (by first | assumption | omega) (by first | assumption | omega) (by first | assumption | omega)) (fun r22 hr22 hp22 => ?_)
      refine z_if_eq (tgt := 32) (pc' := 28) X (by first | assumption | omega) dX8_isPaper_25 rfl (by decide) (fun c25 => ?_) (fun c25 => ?_)
      · refine z_iconst (pc' := 33) X dX8_isPaper_32 rfl ?_
        refine z_zreturn X dX8_isPaper_33 (by first | exact nar_0 | exact nar_1 | exact nar_b (by omega)) (Nat.le_refl _) (Nat.le_refl _) (fun _ hh => ⟨hh, _, rfl, ?_, ?_⟩)
        · first | assumption | omega
        · first | rfl | omega
      · refine z_iconst (pc' := 29) X dX8_isPaper_28 rfl ?_
        refine z_goto (tgt := 33) X dX8_isPaper_29 (by decide) ?_
        refine z_zreturn X dX8_isPaper_33 (by first | exact nar_0 | exact nar_1 | exact nar_b (by omega)) (Nat.le_refl _) (Nat.le_refl _) (fun _ hh => ⟨hh, _, rfl, ?_, ?_⟩)
        · first | assumption | omega
        · first | rfl | omega
theorem Y_X8_isBale : zYV yX8_isBale cX8_isBale 2 (some .boolean) 1 := ⟨⟨q2192, qs53, q132, q2193⟩, by decide +kernel, by decide⟩
set_option maxRecDepth 100000 in
theorem c_X8_isBale (l : Launch) (g : zG) (ma : Nat → Nat) (M : MM) (p : Int) (hp : rng p) (hb : 0 ≤ M 1 4 ∧ M 1 4 ≤ 24) : mFun l yX8_isBale cX8_isBale 2 (some .boolean) 2 [vR (ma 0), vI p] g ma M (fun r => (r = 1 ∧ (0 ≤ p ∧ p < M 1 4)) ∨ (r = 0 ∧ ¬ (0 ≤ p ∧ p < M 1 4))) := by
  refine mFun.mk (L0 := [some (vR (ma 0)), some (vI p)]) (by decide) rfl (Nat.le_of_ble_eq_true rfl) rfl (fun C h hg hl hR X => ?_)
  subst hg hl
  refine z_iload_n (pc' := 1) X dX8_isBale_0 rfl rfl ?_
  refine z_iconst (pc' := 2) X dX8_isBale_1 rfl ?_
  refine z_aload_n (pc' := 3) X dX8_isBale_2 rfl rfl ?_
  refine z_mget (pc' := 6) X 0 rfl (by decide) q2063 rfl dX8_isBale_3 rfl ?_
  refine z_iconst (pc' := 7) X dX8_isBale_6 rfl ?_
  refine z_mld (pc' := 8) X (r := 1) (by decide) (show 0 ≤ _ ∧ _ < (321 : Int) by omega) dX8_isBale_7 rfl (fun hv7 => ?_)
  refine z_iconst (pc' := 9) X dX8_isBale_8 rfl ?_
  refine z_isub (pc' := 10) X dX8_isBale_9 rfl ?_
  refine z_S_fun3 (pc' := 13) X Y_X8_in q2123 dX8_isBale_10 rfl (by decide) (Nat.le_refl _) (Nat.le_refl _) (Nat.le_of_ble_eq_true rfl) (fun h _ => c_X8_in _ _ _ _ _ _ (by first | assumption | omega) (by first | assumption | omega) (by first | assumption | omega)) (fun r10 hr10 hp10 => ?_)
  refine z_zreturn X dX8_isBale_13 (by first | exact nar_0 | exact nar_1 | exact nar_b (by omega)) (Nat.le_refl _) (Nat.le_refl _) (fun _ hh => ⟨hh, _, rfl, ?_, ?_⟩)
  · first | assumption | omega
  · first | rfl | omega
theorem Y_X8_isReam : zYV yX8_isReam cX8_isReam 2 (some .boolean) 1 := ⟨⟨q2348, qs76, q132, q2349⟩, by decide +kernel, by decide⟩
set_option maxRecDepth 100000 in
theorem c_X8_isReam (l : Launch) (g : zG) (ma : Nat → Nat) (M : MM) (p : Int) (hp : rng p) (hb : 0 ≤ M 1 6 ∧ M 1 6 ≤ 30) : mFun l yX8_isReam cX8_isReam 2 (some .boolean) 2 [vR (ma 0), vI p] g ma M (fun r => (r = 1 ∧ (0 ≤ p ∧ p < M 1 6)) ∨ (r = 0 ∧ ¬ (0 ≤ p ∧ p < M 1 6))) := by
  refine mFun.mk (L0 := [some (vR (ma 0)), some (vI p)]) (by decide) rfl (Nat.le_of_ble_eq_true rfl) rfl (fun C h hg hl hR X => ?_)
  subst hg hl
  refine z_iload_n (pc' := 1) X dX8_isReam_0 rfl rfl ?_
  refine z_iconst (pc' := 2) X dX8_isReam_1 rfl ?_
  refine z_aload_n (pc' := 3) X dX8_isReam_2 rfl rfl ?_
  refine z_mget (pc' := 6) X 0 rfl (by decide) q2063 rfl dX8_isReam_3 rfl ?_
  refine z_bipush (pc' := 8) X dX8_isReam_6 rfl (by decide) ?_
  refine z_mld (pc' := 9) X (r := 1) (by decide) (show 0 ≤ _ ∧ _ < (321 : Int) by omega) dX8_isReam_8 rfl (fun hv8 => ?_)
  refine z_iconst (pc' := 10) X dX8_isReam_9 rfl ?_
  refine z_isub (pc' := 11) X dX8_isReam_10 rfl ?_
  refine z_S_fun3 (pc' := 14) X Y_X8_in q2123 dX8_isReam_11 rfl (by decide) (Nat.le_refl _) (Nat.le_refl _) (Nat.le_of_ble_eq_true rfl) (fun h _ => c_X8_in _ _ _ _ _ _ (by first | assumption | omega) (by first | assumption | omega) (by first | assumption | omega)) (fun r11 hr11 hp11 => ?_)
  refine z_zreturn X dX8_isReam_14 (by first | exact nar_0 | exact nar_1 | exact nar_b (by omega)) (Nat.le_refl _) (Nat.le_refl _) (fun _ hh => ⟨hh, _, rfl, ?_, ?_⟩)
  · first | assumption | omega
  · first | rfl | omega
theorem Y_X8_bale : zYV yX8_bale cX8_bale 3 (some .int) 2 := ⟨⟨q2196, qs54, q132, q2197⟩, by decide +kernel, by decide⟩
set_option maxRecDepth 100000 in
theorem c_X8_bale (l : Launch) (g : zG) (ma : Nat → Nat) (M : MM) (p w : Int) (hp : 0 ≤ p ∧ p < 24) (hw : 0 ≤ w ∧ w < 4) : mFun l yX8_bale cX8_bale 3 (some .int) 1 [vR (ma 0), vI p, vI w] g ma M (fun r => r = mB M p w) := by
  refine mFun.mk (L0 := [some (vR (ma 0)), some (vI p), some (vI w)]) (by decide) rfl (Nat.le_of_ble_eq_true rfl) rfl (fun C h hg hl hR X => ?_)
  subst hg hl
  refine z_aload_n (pc' := 1) X dX8_bale_0 rfl rfl ?_
  refine z_mget (pc' := 4) X 0 rfl (by decide) q2063 rfl dX8_bale_1 rfl ?_
  refine z_bipush (pc' := 6) X dX8_bale_4 rfl (by decide) ?_
  refine z_iconst (pc' := 7) X dX8_bale_6 rfl ?_
  refine z_iload_n (pc' := 8) X dX8_bale_7 rfl rfl ?_
  refine z_imul (pc' := 9) X dX8_bale_8 rfl ?_
  refine z_iadd (pc' := 10) X dX8_bale_9 rfl ?_
  refine z_iload_n (pc' := 11) X dX8_bale_10 rfl rfl ?_
  refine z_iadd (pc' := 12) X dX8_bale_11 rfl ?_
  refine z_mld (pc' := 13) X (r := 1) (by decide) (show 0 ≤ _ ∧ _ < (321 : Int) by omega) dX8_bale_12 rfl (fun hv12 => ?_)
  refine z_ireturn X dX8_bale_13 (Nat.le_refl _) (Nat.le_refl _) (fun _ hh => ⟨hh, _, rfl, ?_, ?_⟩)
  · first | assumption | omega
  · first | rfl | omega
theorem Y_X8_pile : zYV yX8_pile cX8_pile 3 (some .int) 2 := ⟨⟨q2328, qs73, q132, q2329⟩, by decide +kernel, by decide⟩
set_option maxRecDepth 100000 in
theorem c_X8_pile (l : Launch) (g : zG) (ma : Nat → Nat) (M : MM) (p w : Int) (hp : 0 ≤ p ∧ p < 12) (hw : 0 ≤ w ∧ w < 5) : mFun l yX8_pile cX8_pile 3 (some .int) 1 [vR (ma 0), vI p, vI w] g ma M (fun r => r = mP M p w) := by
  refine mFun.mk (L0 := [some (vR (ma 0)), some (vI p), some (vI w)]) (by decide) rfl (Nat.le_of_ble_eq_true rfl) rfl (fun C h hg hl hR X => ?_)
  subst hg hl
  refine z_aload_n (pc' := 1) X dX8_pile_0 rfl rfl ?_
  refine z_mget (pc' := 4) X 0 rfl (by decide) q2063 rfl dX8_pile_1 rfl ?_
  refine z_sipush (pc' := 7) X dX8_pile_4 rfl (by decide) ?_
  refine z_iconst (pc' := 8) X dX8_pile_7 rfl ?_
  refine z_iload_n (pc' := 9) X dX8_pile_8 rfl rfl ?_
  refine z_imul (pc' := 10) X dX8_pile_9 rfl ?_
  refine z_iadd (pc' := 11) X dX8_pile_10 rfl ?_
  refine z_iload_n (pc' := 12) X dX8_pile_11 rfl rfl ?_
  refine z_iadd (pc' := 13) X dX8_pile_12 rfl ?_
  refine z_mld (pc' := 14) X (r := 1) (by decide) (show 0 ≤ _ ∧ _ < (321 : Int) by omega) dX8_pile_13 rfl (fun hv13 => ?_)
  refine z_ireturn X dX8_pile_14 (Nat.le_refl _) (Nat.le_refl _) (fun _ hh => ⟨hh, _, rfl, ?_, ?_⟩)
  · first | assumption | omega
  · first | rfl | omega
theorem Y_X8_ream : zYV yX8_ream cX8_ream 3 (some .int) 2 := ⟨⟨q2356, qs78, q132, q2357⟩, by decide +kernel, by decide⟩
set_option maxRecDepth 100000 in
theorem c_X8_ream (l : Launch) (g : zG) (ma : Nat → Nat) (M : MM) (p w : Int) (hp : 0 ≤ p ∧ p < 30) (hw : 0 ≤ w ∧ w < 4) : mFun l yX8_ream cX8_ream 3 (some .int) 1 [vR (ma 0), vI p, vI w] g ma M (fun r => r = mRm M p w) := by
  refine mFun.mk (L0 := [some (vR (ma 0)), some (vI p), some (vI w)]) (by decide) rfl (Nat.le_of_ble_eq_true rfl) rfl (fun C h hg hl hR X => ?_)
  subst hg hl
  refine z_aload_n (pc' := 1) X dX8_ream_0 rfl rfl ?_
  refine z_mget (pc' := 4) X 0 rfl (by decide) q2063 rfl dX8_ream_1 rfl ?_
  refine z_sipush (pc' := 7) X dX8_ream_4 rfl (by decide) ?_
  refine z_iconst (pc' := 8) X dX8_ream_7 rfl ?_
  refine z_iload_n (pc' := 9) X dX8_ream_8 rfl rfl ?_
  refine z_imul (pc' := 10) X dX8_ream_9 rfl ?_
  refine z_iadd (pc' := 11) X dX8_ream_10 rfl ?_
  refine z_iload_n (pc' := 12) X dX8_ream_11 rfl rfl ?_
  refine z_iadd (pc' := 13) X dX8_ream_12 rfl ?_
  refine z_mld (pc' := 14) X (r := 1) (by decide) (show 0 ≤ _ ∧ _ < (321 : Int) by omega) dX8_ream_13 rfl (fun hv13 => ?_)
  refine z_ireturn X dX8_ream_14 (Nat.le_refl _) (Nat.le_refl _) (fun _ hh => ⟨hh, _, rfl, ?_, ?_⟩)
  · first | assumption | omega
  · first | rfl | omega
theorem Y_X8_isMouldy : zYV yX8_isMouldy cX8_isMouldy 2 (some .boolean) 1 := ⟨⟨q2234, qs60, q132, q2235⟩, by decide +kernel, by decide⟩
set_option maxRecDepth 100000 in
theorem c_X8_isMouldy (l : Launch) (g : zG) (ma : Nat → Nat) (M : MM) (p : Int) (hp : 0 ≤ p ∧ p < 24) : mFun l yX8_isMouldy cX8_isMouldy 2 (some .boolean) 2 [vR (ma 0), vI p] g ma M (fun r => (r = 1 ∧ (mB M p 3 = -1)) ∨ (r = 0 ∧ ¬ (mB M p 3 = -1))) := by
  refine mFun.mk (L0 := [some (vR (ma 0)), some (vI p)]) (by decide) rfl (Nat.le_of_ble_eq_true rfl) rfl (fun C h hg hl hR X => ?_)
  subst hg hl
  refine z_aload_n (pc' := 1) X dX8_isMouldy_0 rfl rfl ?_
  refine z_iload_n (pc' := 2) X dX8_isMouldy_1 rfl rfl ?_
  refine z_iconst (pc' := 3) X dX8_isMouldy_2 rfl ?_
  refine z_V_fun2 (pc' := 6) X rfl Y_X8_bale q2194 dX8_isMouldy_3 rfl (by decide) (Nat.le_refl _) (Nat.le_refl _) (Nat.le_of_ble_eq_true rfl) (c_X8_bale _ _ _ _ _ _ (by first | assumption | omega) (by first | assumption | omega)) (fun r3 hr3 hp3 => ?_)
  subst hp3
  refine z_iconst (pc' := 7) X dX8_isMouldy_6 rfl ?_
  refine z_icmp_ne (tgt := 14) (pc' := 10) X (by first | assumption | omega) (by first | assumption | omega) dX8_isMouldy_7 rfl (by decide) (fun c7 => ?_) (fun c7 => ?_)
  · refine z_iconst (pc' := 15) X dX8_isMouldy_14 rfl ?_
    refine z_zreturn X dX8_isMouldy_15 (by first | exact nar_0 | exact nar_1 | exact nar_b (by omega)) (Nat.le_refl _) (Nat.le_refl _) (fun _ hh => ⟨hh, _, rfl, ?_, ?_⟩)
    · first | assumption | omega
    · first | rfl | omega
  · refine z_iconst (pc' := 11) X dX8_isMouldy_10 rfl ?_
    refine z_goto (tgt := 15) X dX8_isMouldy_11 (by decide) ?_
    refine z_zreturn X dX8_isMouldy_15 (by first | exact nar_0 | exact nar_1 | exact nar_b (by omega)) (Nat.le_refl _) (Nat.le_refl _) (fun _ hh => ⟨hh, _, rfl, ?_, ?_⟩)
    · first | assumption | omega
    · first | rfl | omega
theorem Y_X8_debt : zYV yX8_debt cX8_debt 2 (some .int) 1 := ⟨⟨q2141, qs46, q132, q2142⟩, by decide +kernel, by decide⟩
set_option maxRecDepth 100000 in
theorem c_X8_debt (l : Launch) (g : zG) (ma : Nat → Nat) (M : MM) (c : Int) (hc : 0 ≤ c ∧ c < 4) : mFun l yX8_debt cX8_debt 2 (some .int) 1 [vR (ma 0), vI c] g ma M (fun r => r = mDebt M c) := by
  refine mFun.mk (L0 := [some (vR (ma 0)), some (vI c)]) (by decide) rfl (Nat.le_of_ble_eq_true rfl) rfl (fun C h hg hl hR X => ?_)
  subst hg hl
  refine z_aload_n (pc' := 1) X dX8_debt_0 rfl rfl ?_
  refine z_mget (pc' := 4) X 0 rfl (by decide) q2063 rfl dX8_debt_1 rfl ?_
  refine z_bipush (pc' := 6) X dX8_debt_4 rfl (by decide) ?_
  refine z_iconst (pc' := 7) X dX8_debt_6 rfl ?_
  refine z_iload_n (pc' := 8) X dX8_debt_7 rfl rfl ?_
  refine z_imul (pc' := 9) X dX8_debt_8 rfl ?_
  refine z_iadd (pc' := 10) X dX8_debt_9 rfl ?_
  refine z_mld (pc' := 11) X (r := 1) (by decide) (show 0 ≤ _ ∧ _ < (321 : Int) by omega) dX8_debt_10 rfl (fun hv10 => ?_)
  refine z_ireturn X dX8_debt_11 (Nat.le_refl _) (Nat.le_refl _) (fun _ hh => ⟨hh, _, rfl, ?_, ?_⟩)
  · first | assumption | omega
  · first | rfl | omega
theorem Y_X8_hasPass : zYV yX8_hasPass cX8_hasPass 2 (some .boolean) 1 := ⟨⟨q2149, qs48, q132, q2150⟩, by decide +kernel, by decide⟩
set_option maxRecDepth 100000 in
theorem c_X8_hasPass (l : Launch) (g : zG) (ma : Nat → Nat) (M : MM) (c : Int) (hc : 0 ≤ c ∧ c < 4) : mFun l yX8_hasPass cX8_hasPass 2 (some .boolean) 1 [vR (ma 0), vI c] g ma M (fun r => (r = 1 ∧ (M 1 0 ≤ mPass M c)) ∨ (r = 0 ∧ ¬ (M 1 0 ≤ mPass M c))) := by
  refine mFun.mk (L0 := [some (vR (ma 0)), some (vI c)]) (by decide) rfl (Nat.le_of_ble_eq_true rfl) rfl (fun C h hg hl hR X => ?_)
  subst hg hl
  refine z_aload_n (pc' := 1) X dX8_hasPass_0 rfl rfl ?_
  refine z_mget (pc' := 4) X 0 rfl (by decide) q2063 rfl dX8_hasPass_1 rfl ?_
  refine z_bipush (pc' := 6) X dX8_hasPass_4 rfl (by decide) ?_
  refine z_iconst (pc' := 7) X dX8_hasPass_6 rfl ?_
  refine z_iload_n (pc' := 8) X dX8_hasPass_7 rfl rfl ?_
  refine z_imul (pc' := 9) X dX8_hasPass_8 rfl ?_
  refine z_iadd (pc' := 10) X dX8_hasPass_9 rfl ?_
  refine z_iconst (pc' := 11) X dX8_hasPass_10 rfl ?_
  refine z_iadd (pc' := 12) X dX8_hasPass_11 rfl ?_
  refine z_mld (pc' := 13) X (r := 1) (by decide) (show 0 ≤ _ ∧ _ < (321 : Int) by omega) dX8_hasPass_12 rfl (fun hv12 => ?_)
  refine z_aload_n (pc' := 14) X dX8_hasPass_13 rfl rfl ?_
  refine z_mget (pc' := 17) X 0 rfl (by decide) q2063 rfl dX8_hasPass_14 rfl ?_
  refine z_iconst (pc' := 18) X dX8_hasPass_17 rfl ?_
  refine z_mld (pc' := 19) X (r := 1) (by decide) (show 0 ≤ _ ∧ _ < (321 : Int) by omega) dX8_hasPass_18 rfl (fun hv18 => ?_)
  refine z_icmp_lt (tgt := 26) (pc' := 22) X (by first | assumption | omega) (by first | assumption | omega) dX8_hasPass_19 rfl (by decide) (fun c19 => ?_) (fun c19 => ?_)
  · refine z_iconst (pc' := 27) X dX8_hasPass_26 rfl ?_
    refine z_zreturn X dX8_hasPass_27 (by first | exact nar_0 | exact nar_1 | exact nar_b (by omega)) (Nat.le_refl _) (Nat.le_refl _) (fun _ hh => ⟨hh, _, rfl, ?_, ?_⟩)
    · first | assumption | omega
    · unfold mPass; omega
  · refine z_iconst (pc' := 23) X dX8_hasPass_22 rfl ?_
    refine z_goto (tgt := 27) X dX8_hasPass_23 (by decide) ?_
    refine z_zreturn X dX8_hasPass_27 (by first | exact nar_0 | exact nar_1 | exact nar_b (by omega)) (Nat.le_refl _) (Nat.le_refl _) (fun _ hh => ⟨hh, _, rfl, ?_, ?_⟩)
    · first | assumption | omega
    · unfold mPass; omega
def mToll (M : MM) (c w : Int) : Int := if M 1 0 ≤ mPass M c then (w + 9) / 10 else 2 * ((w + 9) / 10)
theorem mToll_b {M : MM} {c w : Int} (hw : 10 ≤ w ∧ w ≤ 300) : 1 ≤ mToll M c w ∧ mToll M c w ≤ 60 := by
  unfold mToll
  split <;> omega
theorem Y_X8_toll : zYV yX8_toll cX8_toll 4 (some .int) 2 := ⟨⟨q2145, qs47, q132, q2146⟩, by decide +kernel, by decide⟩
set_option maxRecDepth 100000 in
theorem c_X8_toll (l : Launch) (g : zG) (ma : Nat → Nat) (M : MM) (c w : Int) (hc : 0 ≤ c ∧ c < 4) (hw : 10 ≤ w ∧ w ≤ 300) : mFun l yX8_toll cX8_toll 4 (some .int) 2 [vR (ma 0), vI c, vI w] g ma M (fun r => r = mToll M c w) := by
  refine mFun.mk (L0 := [some (vR (ma 0)), some (vI c), some (vI w), none]) (by decide) rfl (Nat.le_of_ble_eq_true rfl) rfl (fun C h hg hl hR X => ?_)
  subst hg hl
  refine z_iload_n (pc' := 1) X dX8_toll_0 rfl rfl ?_
  refine z_bipush (pc' := 3) X dX8_toll_1 rfl (by decide) ?_
  refine z_iadd (pc' := 4) X dX8_toll_3 rfl ?_
  refine z_bipush (pc' := 6) X dX8_toll_4 rfl (by decide) ?_
  refine z_idivp (pc' := 7) X (by first | assumption | omega) (by decide) dX8_toll_6 rfl ?_
  refine z_istore_n (pc' := 8) X dX8_toll_7 rfl (by decide) rfl ?_
  dsimp only [List.set]
  refine z_aload_n (pc' := 9) X dX8_toll_8 rfl rfl ?_
  refine z_iload_n (pc' := 10) X dX8_toll_9 rfl rfl ?_
  refine z_V_fun1 (pc' := 13) X rfl Y_X8_hasPass q2147 dX8_toll_10 rfl (by decide) (Nat.le_refl _) (Nat.le_refl _) (Nat.le_of_ble_eq_true rfl) (c_X8_hasPass _ _ _ _ _ (by first | assumption | omega)) (fun r10 hr10 hp10 => ?_)
  refine z_if_eq (tgt := 20) (pc' := 16) X (by first | assumption | omega) dX8_toll_13 rfl (by decide) (fun c13 => ?_) (fun c13 => ?_)
  · refine z_iconst (pc' := 21) X dX8_toll_20 rfl ?_
    refine z_iload_n (pc' := 22) X dX8_toll_21 rfl rfl ?_
    refine z_imul (pc' := 23) X dX8_toll_22 rfl ?_
    refine z_ireturn X dX8_toll_23 (Nat.le_refl _) (Nat.le_refl _) (fun _ hh => ⟨hh, _, rfl, ?_, ?_⟩)
    · first | assumption | omega
    · unfold mToll; split <;> omega
  · refine z_iload_n (pc' := 17) X dX8_toll_16 rfl rfl ?_
    refine z_goto (tgt := 23) X dX8_toll_17 (by decide) ?_
    refine z_ireturn X dX8_toll_23 (Nat.le_refl _) (Nat.le_refl _) (fun _ hh => ⟨hh, _, rfl, ?_, ?_⟩)
    · first | assumption | omega
    · unfold mToll; split <;> omega
theorem Y_X8_strength : zYS yX8_strength cX8_strength 1 (some .int) 1 := ⟨⟨q2241, q132, q2242⟩, by decide +kernel, by decide⟩
set_option maxRecDepth 100000 in
theorem c_X8_strength (l : Launch) (g : zG) (h : GH) (s : Int) (hs : rng s) : zFun l yX8_strength cX8_strength 1 (some .int) 1 [vI s] g h (fun r => r = (if s = 0 then 50 else if s = 1 then 30 else if s = 2 then 60 else 10)) := by
  refine zFun.mk (L0 := [some (vI s)]) (by decide) rfl (Nat.le_of_ble_eq_true rfl) rfl (fun C hg hl X => ?_)
  subst hg hl
  refine z_iload_n (pc' := 1) X dX8_strength_0 rfl rfl ?_
  refine z_if_ne (tgt := 9) (pc' := 4) X (by first | assumption | omega) dX8_strength_1 rfl (by decide) (fun c1 => ?_) (fun c1 => ?_)
  · refine z_iload_n (pc' := 10) X dX8_strength_9 rfl rfl ?_
    refine z_iconst (pc' := 11) X dX8_strength_10 rfl ?_
    refine z_icmp_ne (tgt := 19) (pc' := 14) X (by first | assumption | omega) (by first | assumption | omega) dX8_strength_11 rfl (by decide) (fun c11 => ?_) (fun c11 => ?_)
    · refine z_iload_n (pc' := 20) X dX8_strength_19 rfl rfl ?_
      refine z_iconst (pc' := 21) X dX8_strength_20 rfl ?_
      refine z_icmp_ne (tgt := 29) (pc' := 24) X (by first | assumption | omega) (by first | assumption | omega) dX8_strength_21 rfl (by decide) (fun c21 => ?_) (fun c21 => ?_)
      · refine z_bipush (pc' := 31) X dX8_strength_29 rfl (by decide) ?_
        refine z_ireturn X dX8_strength_31 (Nat.le_refl _) (Nat.le_refl _) (fun _ hh => ⟨hh, _, rfl, ?_, ?_⟩)
        · first | assumption | omega
        · (repeat' split) <;> omega
      · refine z_bipush (pc' := 26) X dX8_strength_24 rfl (by decide) ?_
        refine z_goto (tgt := 31) X dX8_strength_26 (by decide) ?_
        refine z_ireturn X dX8_strength_31 (Nat.le_refl _) (Nat.le_refl _) (fun _ hh => ⟨hh, _, rfl, ?_, ?_⟩)
        · first | assumption | omega
        · (repeat' split) <;> omega
    · refine z_bipush (pc' := 16) X dX8_strength_14 rfl (by decide) ?_
      refine z_goto (tgt := 31) X dX8_strength_16 (by decide) ?_
      refine z_ireturn X dX8_strength_31 (Nat.le_refl _) (Nat.le_refl _) (fun _ hh => ⟨hh, _, rfl, ?_, ?_⟩)
      · first | assumption | omega
      · (repeat' split) <;> omega
  · refine z_bipush (pc' := 6) X dX8_strength_4 rfl (by decide) ?_
    refine z_goto (tgt := 31) X dX8_strength_6 (by decide) ?_
    refine z_ireturn X dX8_strength_31 (Nat.le_refl _) (Nat.le_refl _) (fun _ hh => ⟨hh, _, rfl, ?_, ?_⟩)
    · first | assumption | omega
    · (repeat' split) <;> omega
theorem Y_X8_units : zYV yX8_units cX8_units 2 (some .int) 1 := ⟨⟨q2222, qs57, q132, q2223⟩, by decide +kernel, by decide⟩
set_option maxRecDepth 100000 in
theorem c_X8_units (l : Launch) (g : zG) (ma : Nat → Nat) (M : MM) (v : Int) (hv : 0 ≤ v ∧ v < 3) : mFun l yX8_units cX8_units 2 (some .int) 1 [vR (ma 0), vI v] g ma M (fun r => r = mU M v) := by
  refine mFun.mk (L0 := [some (vR (ma 0)), some (vI v)]) (by decide) rfl (Nat.le_of_ble_eq_true rfl) rfl (fun C h hg hl hR X => ?_)
  subst hg hl
  refine z_aload_n (pc' := 1) X dX8_units_0 rfl rfl ?_
  refine z_mget (pc' := 4) X 0 rfl (by decide) q2063 rfl dX8_units_1 rfl ?_
  refine z_bipush (pc' := 6) X dX8_units_4 rfl (by decide) ?_
  refine z_iconst (pc' := 7) X dX8_units_6 rfl ?_
  refine z_iload_n (pc' := 8) X dX8_units_7 rfl rfl ?_
  refine z_imul (pc' := 9) X dX8_units_8 rfl ?_
  refine z_iadd (pc' := 10) X dX8_units_9 rfl ?_
  refine z_mld (pc' := 11) X (r := 1) (by decide) (show 0 ≤ _ ∧ _ < (321 : Int) by omega) dX8_units_10 rfl (fun hv10 => ?_)
  refine z_ireturn X dX8_units_11 (Nat.le_refl _) (Nat.le_refl _) (fun _ hh => ⟨hh, _, rfl, ?_, ?_⟩)
  · first | assumption | omega
  · first | rfl | omega
theorem Y_X8_wear : zYV yX8_wear cX8_wear 2 (some .int) 1 := ⟨⟨q2283, qs66, q132, q2284⟩, by decide +kernel, by decide⟩
set_option maxRecDepth 100000 in
theorem c_X8_wear (l : Launch) (g : zG) (ma : Nat → Nat) (M : MM) (v : Int) (hv : 0 ≤ v ∧ v < 5) : mFun l yX8_wear cX8_wear 2 (some .int) 1 [vR (ma 0), vI v] g ma M (fun r => r = mMo M v 1) := by
  refine mFun.mk (L0 := [some (vR (ma 0)), some (vI v)]) (by decide) rfl (Nat.le_of_ble_eq_true rfl) rfl (fun C h hg hl hR X => ?_)
  subst hg hl
  refine z_aload_n (pc' := 1) X dX8_wear_0 rfl rfl ?_
  refine z_mget (pc' := 4) X 0 rfl (by decide) q2063 rfl dX8_wear_1 rfl ?_
  refine z_bipush (pc' := 6) X dX8_wear_4 rfl (by decide) ?_
  refine z_iconst (pc' := 7) X dX8_wear_6 rfl ?_
  refine z_iload_n (pc' := 8) X dX8_wear_7 rfl rfl ?_
  refine z_imul (pc' := 9) X dX8_wear_8 rfl ?_
  refine z_iadd (pc' := 10) X dX8_wear_9 rfl ?_
  refine z_iconst (pc' := 11) X dX8_wear_10 rfl ?_
  refine z_iadd (pc' := 12) X dX8_wear_11 rfl ?_
  refine z_mld (pc' := 13) X (r := 1) (by decide) (show 0 ≤ _ ∧ _ < (321 : Int) by omega) dX8_wear_12 rfl (fun hv12 => ?_)
  refine z_ireturn X dX8_wear_13 (Nat.le_refl _) (Nat.le_refl _) (fun _ hh => ⟨hh, _, rfl, ?_, ?_⟩)
  · first | assumption | omega
  · first | rfl | omega
theorem Y_X8_sortBy : zYS yX8_sortBy cX8_sortBy 1 (some .int) 1 := ⟨⟨q2635, q132, q2636⟩, by decide +kernel, by decide⟩
set_option maxRecDepth 100000 in
theorem c_X8_sortBy (l : Launch) (g : zG) (h : GH) (v : Int) (hv : rng v) : zFun l yX8_sortBy cX8_sortBy 1 (some .int) 1 [vI v] g h (fun r => r = (if v = 108 then 0 else if v = 99 then 1 else if v = 104 then 2 else if v = 119 then 3 else -1)) := by
  refine zFun.mk (L0 := [some (vI v)]) (by decide) rfl (Nat.le_of_ble_eq_true rfl) rfl (fun C hg hl X => ?_)
  subst hg hl
  refine z_iload_n (pc' := 1) X dX8_sortBy_0 rfl rfl ?_
  refine z_bipush (pc' := 3) X dX8_sortBy_1 rfl (by decide) ?_
  refine z_icmp_ne (tgt := 10) (pc' := 6) X (by first | assumption | omega) (by first | assumption | omega) dX8_sortBy_3 rfl (by decide) (fun c3 => ?_) (fun c3 => ?_)
  · refine z_iload_n (pc' := 11) X dX8_sortBy_10 rfl rfl ?_
    refine z_bipush (pc' := 13) X dX8_sortBy_11 rfl (by decide) ?_
    refine z_icmp_ne (tgt := 20) (pc' := 16) X (by first | assumption | omega) (by first | assumption | omega) dX8_sortBy_13 rfl (by decide) (fun c13 => ?_) (fun c13 => ?_)
    · refine z_iload_n (pc' := 21) X dX8_sortBy_20 rfl rfl ?_
      refine z_bipush (pc' := 23) X dX8_sortBy_21 rfl (by decide) ?_
      refine z_icmp_ne (tgt := 30) (pc' := 26) X (by first | assumption | omega) (by first | assumption | omega) dX8_sortBy_23 rfl (by decide) (fun c23 => ?_) (fun c23 => ?_)
      · refine z_iload_n (pc' := 31) X dX8_sortBy_30 rfl rfl ?_
        refine z_bipush (pc' := 33) X dX8_sortBy_31 rfl (by decide) ?_
        refine z_icmp_ne (tgt := 40) (pc' := 36) X (by first | assumption | omega) (by first | assumption | omega) dX8_sortBy_33 rfl (by decide) (fun c33 => ?_) (fun c33 => ?_)
        · refine z_iconst (pc' := 41) X dX8_sortBy_40 rfl ?_
          refine z_ireturn X dX8_sortBy_41 (Nat.le_refl _) (Nat.le_refl _) (fun _ hh => ⟨hh, _, rfl, ?_, ?_⟩)
          · first | assumption | omega
          · (repeat' split) <;> omega
        · refine z_iconst (pc' := 37) X dX8_sortBy_36 rfl ?_
          refine z_goto (tgt := 41) X dX8_sortBy_37 (by decide) ?_
          refine z_ireturn X dX8_sortBy_41 (Nat.le_refl _) (Nat.le_refl _) (fun _ hh => ⟨hh, _, rfl, ?_, ?_⟩)
          · first | assumption | omega
          · (repeat' split) <;> omega
      · refine z_iconst (pc' := 27) X dX8_sortBy_26 rfl ?_
        refine z_goto (tgt := 41) X dX8_sortBy_27 (by decide) ?_
        refine z_ireturn X dX8_sortBy_41 (Nat.le_refl _) (Nat.le_refl _) (fun _ hh => ⟨hh, _, rfl, ?_, ?_⟩)
        · first | assumption | omega
        · (repeat' split) <;> omega
    · refine z_iconst (pc' := 17) X dX8_sortBy_16 rfl ?_
      refine z_goto (tgt := 41) X dX8_sortBy_17 (by decide) ?_
      refine z_ireturn X dX8_sortBy_41 (Nat.le_refl _) (Nat.le_refl _) (fun _ hh => ⟨hh, _, rfl, ?_, ?_⟩)
      · first | assumption | omega
      · (repeat' split) <;> omega
  · refine z_iconst (pc' := 7) X dX8_sortBy_6 rfl ?_
    refine z_goto (tgt := 41) X dX8_sortBy_7 (by decide) ?_
    refine z_ireturn X dX8_sortBy_41 (Nat.le_refl _) (Nat.le_refl _) (fun _ hh => ⟨hh, _, rfl, ?_, ?_⟩)
    · first | assumption | omega
    · (repeat' split) <;> omega
theorem Y_X8_thrown : zYV yX8_thrown cX8_thrown 1 (some .int) 0 := ⟨⟨q2113, q2114, q132, q2115⟩, by decide +kernel, by decide⟩
set_option maxRecDepth 100000 in
theorem c_X8_thrown (l : Launch) (g : zG) (ma : Nat → Nat) (M : MM)  : mFun l yX8_thrown cX8_thrown 1 (some .int) 1 [vR (ma 0)] g ma M (fun r => r = M 0 3) := by
  refine mFun.mk (L0 := [some (vR (ma 0))]) (by decide) rfl (Nat.le_of_ble_eq_true rfl) rfl (fun C h hg hl hR X => ?_)
  subst hg hl
  refine z_aload_n (pc' := 1) X dX8_thrown_0 rfl rfl ?_
  have hv1 := hR 0 3
  refine z_mget (pc' := 4) X 10 rfl (by decide) q2073 rfl dX8_thrown_1 rfl ?_
  refine z_ireturn X dX8_thrown_4 (Nat.le_refl _) (Nat.le_refl _) (fun _ hh => ⟨hh, _, rfl, ?_, ?_⟩)
  · first | assumption | omega
  · first | rfl | omega
theorem Y_X8_canPass : zYV yX8_canPass cX8_canPass 2 (some .boolean) 1 := ⟨⟨q2372, qs81, q132, q2373⟩, by decide +kernel, by decide⟩
set_option maxRecDepth 100000 in
theorem c_X8_canPass (l : Launch) (g : zG) (ma : Nat → Nat) (M : MM) (n : Int) (hn : 1 ≤ n ∧ n ≤ 99) (hd : 0 ≤ M 1 0 ∧ M 1 0 ≤ 2000) : mFun l yX8_canPass cX8_canPass 2 (some .boolean) 1 [vR (ma 0), vI n] g ma M (fun r => (r = 1 ∧ (M 1 0 + n ≤ 999)) ∨ (r = 0 ∧ ¬ (M 1 0 + n ≤ 999))) := by
  refine mFun.mk (L0 := [some (vR (ma 0)), some (vI n)]) (by decide) rfl (Nat.le_of_ble_eq_true rfl) rfl (fun C h hg hl hR X => ?_)
  subst hg hl
  refine z_aload_n (pc' := 1) X dX8_canPass_0 rfl rfl ?_
  refine z_mget (pc' := 4) X 0 rfl (by decide) q2063 rfl dX8_canPass_1 rfl ?_
  refine z_iconst (pc' := 5) X dX8_canPass_4 rfl ?_
  refine z_mld (pc' := 6) X (r := 1) (by decide) (show 0 ≤ _ ∧ _ < (321 : Int) by omega) dX8_canPass_5 rfl (fun hv5 => ?_)
  refine z_iload_n (pc' := 7) X dX8_canPass_6 rfl rfl ?_
  refine z_iadd (pc' := 8) X dX8_canPass_7 rfl ?_
  refine z_sipush (pc' := 11) X dX8_canPass_8 rfl (by decide) ?_
  refine z_icmp_gt (tgt := 18) (pc' := 14) X (by first | assumption | omega) (by first | assumption | omega) dX8_canPass_11 rfl (by decide) (fun c11 => ?_) (fun c11 => ?_)
  · refine z_iconst (pc' := 19) X dX8_canPass_18 rfl ?_
    refine z_zreturn X dX8_canPass_19 (by first | exact nar_0 | exact nar_1 | exact nar_b (by omega)) (Nat.le_refl _) (Nat.le_refl _) (fun _ hh => ⟨hh, _, rfl, ?_, ?_⟩)
    · first | assumption | omega
    · first | rfl | omega
  · refine z_iconst (pc' := 15) X dX8_canPass_14 rfl ?_
    refine z_goto (tgt := 19) X dX8_canPass_15 (by decide) ?_
    refine z_zreturn X dX8_canPass_19 (by first | exact nar_0 | exact nar_1 | exact nar_b (by omega)) (Nat.le_refl _) (Nat.le_refl _) (fun _ hh => ⟨hh, _, rfl, ?_, ?_⟩)
    · first | assumption | omega
    · first | rfl | omega
theorem Y_X8_canStamp : zYV yX8_canStamp cX8_canStamp 3 (some .boolean) 2 := ⟨⟨q2252, qs62, q132, q2253⟩, by decide +kernel, by decide⟩
set_option maxRecDepth 100000 in
theorem c_X8_canStamp (l : Launch) (g : zG) (ma : Nat → Nat) (M : MM) (v t : Int) (hv : 0 ≤ v ∧ v < 3) (ht : rng (mV M v 1 + t)) : mFun l yX8_canStamp cX8_canStamp 3 (some .boolean) 2 [vR (ma 0), vI v, vI t] g ma M (fun r => (r = 1 ∧ (0 < mU M v ∧ mV M v 1 + t ≤ 48)) ∨ (r = 0 ∧ ¬ (0 < mU M v ∧ mV M v 1 + t ≤ 48))) := by
  refine mFun.mk (L0 := [some (vR (ma 0)), some (vI v), some (vI t)]) (by decide) rfl (Nat.le_of_ble_eq_true rfl) rfl (fun C h hg hl hR X => ?_)
  subst hg hl
  refine z_aload_n (pc' := 1) X dX8_canStamp_0 rfl rfl ?_
  refine z_iload_n (pc' := 2) X dX8_canStamp_1 rfl rfl ?_
  refine z_V_fun1 (pc' := 5) X rfl Y_X8_units q2220 dX8_canStamp_2 rfl (by decide) (Nat.le_refl _) (Nat.le_refl _) (Nat.le_of_ble_eq_true rfl) (c_X8_units _ _ _ _ _ (by first | assumption | omega)) (fun r2 hr2 hp2 => ?_)
  subst hp2
  refine z_if_le (tgt := 32) (pc' := 8) X (by first | assumption | omega) dX8_canStamp_5 rfl (by decide) (fun c5 => ?_) (fun c5 => ?_)
  · refine z_iconst (pc' := 33) X dX8_canStamp_32 rfl ?_
    refine z_zreturn X dX8_canStamp_33 (by first | exact nar_0 | exact nar_1 | exact nar_b (by omega)) (Nat.le_refl _) (Nat.le_refl _) (fun _ hh => ⟨hh, _, rfl, ?_, ?_⟩)
    · first | assumption | omega
    · unfold mV; omega
  · refine z_aload_n (pc' := 9) X dX8_canStamp_8 rfl rfl ?_
    refine z_mget (pc' := 12) X 0 rfl (by decide) q2063 rfl dX8_canStamp_9 rfl ?_
    refine z_bipush (pc' := 14) X dX8_canStamp_12 rfl (by decide) ?_
    refine z_iconst (pc' := 15) X dX8_canStamp_14 rfl ?_
    refine z_iload_n (pc' := 16) X dX8_canStamp_15 rfl rfl ?_
    refine z_imul (pc' := 17) X dX8_canStamp_16 rfl ?_
    refine z_iadd (pc' := 18) X dX8_canStamp_17 rfl ?_
    refine z_iconst (pc' := 19) X dX8_canStamp_18 rfl ?_
    refine z_iadd (pc' := 20) X dX8_canStamp_19 rfl ?_
    refine z_mld (pc' := 21) X (r := 1) (by decide) (show 0 ≤ _ ∧ _ < (321 : Int) by omega) dX8_canStamp_20 rfl (fun hv20 => ?_)
    refine z_iload_n (pc' := 22) X dX8_canStamp_21 rfl rfl ?_
    refine z_iadd (pc' := 23) X dX8_canStamp_22 rfl ?_
    refine z_bipush (pc' := 25) X dX8_canStamp_23 rfl (by decide) ?_
    refine z_icmp_gt (tgt := 32) (pc' := 28) X (by first | assumption | omega) (by first | assumption | omega) dX8_canStamp_25 rfl (by decide) (fun c25 => ?_) (fun c25 => ?_)
    · refine z_iconst (pc' := 33) X dX8_canStamp_32 rfl ?_
      refine z_zreturn X dX8_canStamp_33 (by first | exact nar_0 | exact nar_1 | exact nar_b (by omega)) (Nat.le_refl _) (Nat.le_refl _) (fun _ hh => ⟨hh, _, rfl, ?_, ?_⟩)
      · first | assumption | omega
      · unfold mV; omega
    · refine z_iconst (pc' := 29) X dX8_canStamp_28 rfl ?_
      refine z_goto (tgt := 33) X dX8_canStamp_29 (by decide) ?_
      refine z_zreturn X dX8_canStamp_33 (by first | exact nar_0 | exact nar_1 | exact nar_b (by omega)) (Nat.le_refl _) (Nat.le_refl _) (fun _ hh => ⟨hh, _, rfl, ?_, ?_⟩)
      · first | assumption | omega
      · unfold mV; omega
theorem Y_X8_count : zYV yX8_count cX8_count 2 (some .int) 1 := ⟨⟨q2420, qs88, q132, q2421⟩, by decide +kernel, by decide⟩
set_option maxRecDepth 100000 in
theorem c_X8_count (l : Launch) (g : zG) (ma : Nat → Nat) (M : MM) (w : Int) (hw : 0 ≤ w ∧ w < 321) : mInt l yX8_count cX8_count 2 (some .int) 1 [vR (ma 0), vI w] g ma M (fun r M' => M' = mset M 0 3 0 ∧ r = M 1 w) := by
  refine mInt.mk (L0 := [some (vR (ma 0)), some (vI w)]) (by decide) rfl (Nat.le_of_ble_eq_true rfl) rfl (fun C h hg hl hR X => ?_)
  subst hg hl
  refine z_aload_n (pc' := 1) X dX8_count_0 rfl rfl ?_
  refine z_iconst (pc' := 2) X dX8_count_1 rfl ?_
  refine z_mput (pc' := 5) X 10 3 rfl (by decide) q2073 rfl rfl rfl (by first | assumption | omega) dX8_count_2 rfl (fun hR2 => ?_)
  refine z_aload_n (pc' := 6) X dX8_count_5 rfl rfl ?_
  refine z_mget (pc' := 9) X 0 rfl (by decide) q2063 rfl dX8_count_6 rfl ?_
  refine z_iload_n (pc' := 10) X dX8_count_9 rfl rfl ?_
  refine z_mld (pc' := 11) X (r := 1) (by decide) (show 0 ≤ _ ∧ _ < (321 : Int) by omega) dX8_count_10 rfl (fun hv10 => ?_)
  refine z_ireturn X dX8_count_11 (Nat.le_refl _) (Nat.le_refl _) (fun _ hh => ⟨_, hh, _, rfl, ?_, ?_⟩)
  · first | assumption | omega
  · exact ⟨rfl, by rw [mset_r (by decide)]⟩
theorem Y_X8_refuses : zYV yX8_refuses cX8_refuses 2 (some .int) 1 := ⟨⟨q2340, qs75, q132, q2341⟩, by decide +kernel, by decide⟩
set_option maxRecDepth 100000 in
theorem c_X8_refuses (l : Launch) (g : zG) (ma : Nat → Nat) (M : MM) (w : Int) (hw : rng w) : mInt l yX8_refuses cX8_refuses 2 (some .int) 1 [vR (ma 0), vI w] g ma M (fun r M' => M' = mset M 0 3 w ∧ r = 0) := by
  refine mInt.mk (L0 := [some (vR (ma 0)), some (vI w)]) (by decide) rfl (Nat.le_of_ble_eq_true rfl) rfl (fun C h hg hl hR X => ?_)
  subst hg hl
  refine z_aload_n (pc' := 1) X dX8_refuses_0 rfl rfl ?_
  refine z_iload_n (pc' := 2) X dX8_refuses_1 rfl rfl ?_
  refine z_mput (pc' := 5) X 10 3 rfl (by decide) q2073 rfl rfl rfl (by first | assumption | omega) dX8_refuses_2 rfl (fun hR2 => ?_)
  refine z_iconst (pc' := 6) X dX8_refuses_5 rfl ?_
  refine z_ireturn X dX8_refuses_6 (Nat.le_refl _) (Nat.le_refl _) (fun _ hh => ⟨_, hh, _, rfl, ?_, ?_⟩)
  · first | assumption | omega
  · exact ⟨rfl, rfl⟩
end M1

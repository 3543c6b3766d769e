/-! INTS: a machine int as jI of an Int; arithmetic without bounds where it is a ring's, compares and divisions under bounds -/
section ZINTS
def jI (z : Int) : Int32 := Int32.ofInt z
abbrev vI (z : Int) : Value := .int (jI z)
abbrev vR (a : Nat) : Value := .ref a
abbrev rng (z : Int) : Prop := -2147483648 ≤ z ∧ z ≤ 2147483647
theorem jI_int {z : Int} (h : rng z) : (jI z).toInt = z := by
  unfold jI
  exact Int32.toInt_ofInt_of_le (by omega) (by omega)
theorem jI_of (x : Int32) : jI x.toInt = x := Int32.ofInt_toInt x
theorem rng_i (x : Int32) : rng x.toInt := ⟨by have := x.le_toInt; omega, by have := x.toInt_lt; omega⟩
theorem jI_tb (z : Int) : (jI z).toBitVec = BitVec.ofInt 32 z := Int32.toBitVec_ofInt z
theorem jI_add (a b : Int) : jI a + jI b = jI (a + b) := by
  apply Int32.toBitVec.inj
  rw [Int32.toBitVec_add, jI_tb, jI_tb, jI_tb, BitVec.ofInt_add]
theorem jI_mul (a b : Int) : jI a * jI b = jI (a * b) := by
  apply Int32.toBitVec.inj
  rw [Int32.toBitVec_mul, jI_tb, jI_tb, jI_tb, BitVec.ofInt_mul]
theorem jI_neg (a : Int) : -jI a = jI (-a) := Int32.neg_ofInt
theorem jI_sub (a b : Int) : jI a - jI b = jI (a - b) := by
  rw [Int32.sub_eq_add_neg, jI_neg, jI_add, Int.sub_eq_add_neg]
theorem jI_lt {a b : Int} (ha : rng a) (hb : rng b) : jI a < jI b ↔ a < b := by
  rw [Int32.lt_iff_toInt_lt, jI_int ha, jI_int hb]
theorem jI_le {a b : Int} (ha : rng a) (hb : rng b) : jI a ≤ jI b ↔ a ≤ b := by
  rw [Int32.le_iff_toInt_le, jI_int ha, jI_int hb]
theorem jI_eq {a b : Int} (ha : rng a) (hb : rng b) : jI a = jI b ↔ a = b := by
  rw [← Int32.toInt_inj, jI_int ha, jI_int hb]
theorem jI_0 : jI 0 = 0 := rfl
theorem rng_0 : rng 0 := by constructor <;> decide
theorem jI_lt0 {a : Int} (ha : rng a) : jI a < 0 ↔ a < 0 := jI_lt ha rng_0
theorem jI_le0 {a : Int} (ha : rng a) : jI a ≤ 0 ↔ a ≤ 0 := jI_le ha rng_0
theorem jI_ge0 {a : Int} (ha : rng a) : 0 ≤ jI a ↔ 0 ≤ a := jI_le rng_0 ha
theorem jI_gt0 {a : Int} (ha : rng a) : 0 < jI a ↔ 0 < a := jI_lt rng_0 ha
theorem jI_eq0 {a : Int} (ha : rng a) : jI a = 0 ↔ a = 0 := jI_eq ha rng_0
theorem jI_div {a b : Int} (ha : rng a) (hb : rng b) (h0 : 0 < b) : jI a / jI b = jI (a.tdiv b) := by
  have h1 : rng (a.tdiv b) := by
    rcases Int.le_total 0 a with h | h
    · have h2 := Int.tdiv_le_self (a := a) b h
      have h3 := Int.tdiv_nonneg h (Int.le_of_lt h0)
      exact ⟨by omega, by omega⟩
    · have e : a.tdiv b = -((-a).tdiv b) := by rw [Int.neg_tdiv, Int.neg_neg]
      have h2 := Int.tdiv_le_self (a := -a) b (by omega)
      have h3 := Int.tdiv_nonneg (show 0 ≤ -a by omega) (Int.le_of_lt h0)
      exact ⟨by omega, by omega⟩
  apply Int32.toInt_inj.mp
  rw [jI_int h1, Int32.toInt_div, jI_int ha, jI_int hb]
  rw [Int.bmod_eq_of_le (by omega) (by omega)]
theorem jI_rem {a b : Int} (ha : rng a) (hb : rng b) (h0 : 0 < b) : jI a - jI a / jI b * jI b = jI (a.tmod b) := by
  rw [jI_div ha hb h0, jI_mul, jI_sub]
  congr 1
  have := Int.mul_tdiv_add_tmod a b
  rw [Int.mul_comm] at this
  omega
theorem jI_ne {b : Int} (hb : rng b) (h0 : b ≠ 0) : ¬ jI b = 0 := fun h => h0 ((jI_eq0 hb).mp h)
theorem jI_clamp {z : Int} (h : 0 ≤ z ∧ z ≤ 2147483647) : (jI z).toNatClampNeg = z.toNat := by
  rw [← Int32.toNat_toInt, jI_int ⟨by omega, h.2⟩]
theorem jI_in {z : Int} {n : Nat} (h : 0 ≤ z ∧ z < n) (hn : n ≤ 2147483647) : vp_in (jI z) n := by
  rw [vp_in_iff, jI_int ⟨by omega, by omega⟩]
  exact h
theorem jI_nat (n : Nat) : Int32.ofNat n = jI n := by
  unfold jI
  exact (Int32.ofInt_eq_ofNat).symm
theorem jI_ofInt (n : Int) : Int32.ofInt n = jI n := rfl
theorem jI_char {z : Int} (h : 0 ≤ z ∧ z < 65536) : ((jI z).toUInt32 % 65536).toInt32 = jI z := by
  obtain ⟨n, rfl⟩ : ∃ n : Nat, z = n := ⟨z.toNat, by omega⟩
  have hn : n < 65536 := by omega
  rw [← jI_nat]
  have h1 := pk_char (nI n)
  rw [show nI n = Int32.ofNat n from rfl] at h1
  rw [h1]
  have h2 := pk_tn (n := n) (by omega)
  rw [show nI n = Int32.ofNat n from rfl] at h2
  rw [h2, Nat.mod_eq_of_lt hn]
  rfl
/-- a total of the machine's truth values -/
def bI (b : Prop) [Decidable b] : Int := if b then 1 else 0
theorem bI_t {b : Prop} [Decidable b] (h : b) : bI b = 1 := if_pos h
theorem bI_f {b : Prop} [Decidable b] (h : ¬ b) : bI b = 0 := if_neg h
theorem bI_rng {b : Prop} [Decidable b] : 0 ≤ bI b ∧ bI b ≤ 1 := by
  unfold bI
  split <;> exact ⟨by decide, by decide⟩
theorem bI_1 {b : Prop} [Decidable b] : bI b = 1 ↔ b := by
  unfold bI
  split <;> simp_all
theorem bI_0 {b : Prop} [Decidable b] : bI b = 0 ↔ ¬ b := by
  unfold bI
  split <;> simp_all
theorem tdiv_pos {a b : Int} (h : 0 ≤ a) : a.tdiv b = a / b := Int.tdiv_eq_ediv_of_nonneg h
theorem tmod_pos {a b : Int} (h : 0 ≤ a) : a.tmod b = a % b := Int.tmod_eq_emod_of_nonneg h
end ZINTS

/-! LAMBDAS: the fourteen sites -/
section ZLAM6
section
variable {C : ZC} {cc : ByteArray} {own : String} {nL : Nat} {ret : Option FieldType} {d mc ms : Nat} {post : Option Value → GH → Prop} {k n : Nat} {L : List (Option Value)} {pc pc' : Nat} {st : List Value} {h1 : GH}
/-- aastore of a lambda -/
theorem z_aastL1 (X : zX C cc own nL ret d mc ms post) {j : Nat} {x : MethodName} {pcS idxS : Nat} {σ : Lambda.Shape} (hs : lamSites.find? (fun z => z.1 == j) = some (j, .lambdaSite x pcS idxS σ)) {a N t t0 v : Nat} {f : Nat → Option Nat} {i : Int} {vs : List Value} (ht : ∀ b, (zTys b)[t0]? = some (b t, .object σ.iface)) (hh : h1 a = some (zAq t N f)) (hv : h1 v = some (zLm j vs)) (hi : 0 ≤ i ∧ i < N) (hN : N ≤ 2147483647)
    (hd : decode cc pc = .ok (.aastore, 1)) (hn : pc + 1 = pc') (kk : ∀ h2, h2 = hset h1 a (zAq t N (fup f i.toNat (some v))) → ZP C nL (zAt h2) k n L pc' st) : ZP C nL (zAt h1) k n L pc (vR v :: vI i :: vR a :: st) := by
  obtain ⟨p, l, e, R, s, m, args, below, meth, c, g, Q⟩ := C
  obtain ⟨hx, hb, hml, hown, hts, hret, hlk, hK, hR, hQ⟩ := X
  subst hn
  intro h H locs cells slots ls g1 h2 h3 h4 h5 h6
  have g1 : h = h1 := g1
  subst g1
  obtain ⟨hbase, hat⟩ := h2 a _ hh
  have hcell : H[v]? = some { cls := g.2.2 (20 + j), slots := vs.toArray, vm := .none } := (h2 v _ hv).2
  obtain ⟨kA, comp, k1, k2, k3, -⟩ := (hK.facts.1.2 t0 _ (ht g.2.2)).2
  obtain ⟨kE, hkE, -⟩ := Vm.findClass_spec k3
  obtain ⟨m0, k0, cf0, i0, p0, lk, -, -, -, -, -, -, hmade, hcan, -⟩ := State.lambdaAt?_spec (hK.lam hs)
  obtain ⟨dk, kC, -, -, -, -, -, -, -, -, -, -, -, -, hkC, -⟩ := Lambda.isMade_spec hmade
  obtain ⟨i2, hi2, f3, -⟩ := State.lambdaCallable_spec hcan
  cases k3.symm.trans hi2
  have hin := jI_in hi hN
  refine W.aast hx hb hat (fun q h => by cases h) (fun h => by cases h) k1 k2 rfl hkE ⟨fun q => hin (Or.inl q), by show _ < (arrV _ _ _).slots.size; rw [arrV_size]; exact Nat.not_le.mp fun q => hin (Or.inr q)⟩ hcell (fun q h => by cases h) hkC f3 rfl rfl hd fun H1 e z2 oq => ?_
  refine kk _ rfl _ H1 _ cells slots ls rfl (h2.set hbase ?_ oq) (h3.put z2 oq hbase) h4 h5 h6
  show H1[a]? = some (vp_cell _ _)
  rw [e, vp_cell_q, vp_cell_q, arrV_store, jI_clamp ⟨hi.1, by omega⟩]
  congr 2
  funext q
  unfold fup
  by_cases hq : q = i.toNat
  · subst hq
    simp [updV, va_rf]
  · simp [updV, hq]
end
def lamS0 : Lambda.Shape := { iface := "PaperMill$Work", name := "doIt", sam := ⟨[(.object "PaperMill$State")], some .boolean⟩, captured := [(.object "PaperMill$Mix")], kind := 6, implClass := "PaperMill$TextReader", implName := "lambda$recipe$0", implDesc := ⟨[(.object "PaperMill$Mix"), (.object "PaperMill$State")], some .boolean⟩, implItf := false, inst := ⟨[(.object "PaperMill$State")], some .boolean⟩ }
def lamB0 : ByteArray := ⟨#[42, 180, 0, 15, 43, 184, 0, 23, 172]⟩
def lamD0 : Jvm.ClassFile.ClassFile := (lamS0.file "PaperMill$TextReader").getD { minorVersion := 0, majorVersion := 0, constantPool := #[], accessFlags := 0, thisClass := 0, superClass := 0, interfaces := #[], fields := #[], methods := #[], attributes := #[] }
def lamF0 : Method := ((layoutMethods lamD0).bind (·[1]?)).getD default
def lamY0 : Array Field × Array FieldType × Array FieldType := (layoutFields lamD0 0).getD (#[], #[], #[])
theorem lamd0_0 : decode lamB0 0 = .ok (.aload_n 0, 1) := by decide +kernel
theorem lamd0_1 : decode lamB0 1 = .ok (.getfield 15, 3) := by decide +kernel
theorem lamd0_4 : decode lamB0 4 = .ok (.aload_n 1, 1) := by decide +kernel
theorem lamd0_5 : decode lamB0 5 = .ok (.invokestatic 23, 3) := by decide +kernel
theorem lamd0_8 : decode lamB0 8 = .ok (.ireturn, 1) := by decide +kernel
theorem lams0 : lamSites.find? (fun z => z.1 == 0) = some (0, .lambdaSite ⟨"PaperMill$TextReader", "recipe", "(LPaperMill$Mix;)LPaperMill$Work;"⟩ 1 118 lamS0) := rfl
theorem lamok0 : lamOK lamS0 "PaperMill$TextReader" lamB0 2 (some .boolean) 23 19 [15] #[(.object "PaperMill$Mix")] := by
  have h1 : (lamS0.file "PaperMill$TextReader").isSome = true := by decide +kernel
  obtain ⟨x1, hx1⟩ := Option.isSome_iff_exists.mp h1
  have h2 : ((layoutMethods lamD0).bind (·[1]?)).isSome = true := by decide +kernel
  obtain ⟨x2, hx2⟩ := Option.isSome_iff_exists.mp h2
  have h3 : (layoutFields lamD0 0).isSome = true := by decide +kernel
  obtain ⟨x3, hx3⟩ := Option.isSome_iff_exists.mp h3
  refine ⟨lamD0, lamF0, lamY0, 22, 18, by simp [lamD0, hx1], fun ms hms => ?_, by simp [lamY0, hx3], by decide +kernel, by decide +kernel, by decide +kernel, by decide +kernel, fun j hj => ?_, by decide +kernel⟩
  · have hf : lamF0 = x2 := by simp [lamF0, hx2]
    rw [hms] at hx2
    rw [hf]
    exact hx2
  · match j, hj with
    | 0, _ => exact ⟨14, "arg$1", "LPaperMill$Mix;", by decide +kernel⟩
    | j + 1, hj => exact absurd hj (by simp)
def lamS1 : Lambda.Shape := { iface := "PaperMill$Work", name := "doIt", sam := ⟨[(.object "PaperMill$State")], some .boolean⟩, captured := [.int, .int, .int, .int], kind := 6, implClass := "PaperMill$TextReader", implName := "lambda$delivery$1", implDesc := ⟨[.int, .int, .int, .int, (.object "PaperMill$State")], some .boolean⟩, implItf := false, inst := ⟨[(.object "PaperMill$State")], some .boolean⟩ }
def lamB1 : ByteArray := ⟨#[42, 180, 0, 18, 42, 180, 0, 20, 42, 180, 0, 22, 42, 180, 0, 24, 43, 184, 0, 32, 172]⟩
def lamD1 : Jvm.ClassFile.ClassFile := (lamS1.file "PaperMill$TextReader").getD { minorVersion := 0, majorVersion := 0, constantPool := #[], accessFlags := 0, thisClass := 0, superClass := 0, interfaces := #[], fields := #[], methods := #[], attributes := #[] }
def lamF1 : Method := ((layoutMethods lamD1).bind (·[1]?)).getD default
def lamY1 : Array Field × Array FieldType × Array FieldType := (layoutFields lamD1 0).getD (#[], #[], #[])
theorem lamd1_0 : decode lamB1 0 = .ok (.aload_n 0, 1) := by decide +kernel
theorem lamd1_1 : decode lamB1 1 = .ok (.getfield 18, 3) := by decide +kernel
theorem lamd1_4 : decode lamB1 4 = .ok (.aload_n 0, 1) := by decide +kernel
theorem lamd1_5 : decode lamB1 5 = .ok (.getfield 20, 3) := by decide +kernel
theorem lamd1_8 : decode lamB1 8 = .ok (.aload_n 0, 1) := by decide +kernel
theorem lamd1_9 : decode lamB1 9 = .ok (.getfield 22, 3) := by decide +kernel
theorem lamd1_12 : decode lamB1 12 = .ok (.aload_n 0, 1) := by decide +kernel
theorem lamd1_13 : decode lamB1 13 = .ok (.getfield 24, 3) := by decide +kernel
theorem lamd1_16 : decode lamB1 16 = .ok (.aload_n 1, 1) := by decide +kernel
theorem lamd1_17 : decode lamB1 17 = .ok (.invokestatic 32, 3) := by decide +kernel
theorem lamd1_20 : decode lamB1 20 = .ok (.ireturn, 1) := by decide +kernel
theorem lams1 : lamSites.find? (fun z => z.1 == 1) = some (1, .lambdaSite ⟨"PaperMill$TextReader", "delivery", "(I)LPaperMill$Work;"⟩ 33 125 lamS1) := rfl
theorem lamok1 : lamOK lamS1 "PaperMill$TextReader" lamB1 2 (some .boolean) 32 28 [18, 20, 22, 24] #[.int, .int, .int, .int] := by
  have h1 : (lamS1.file "PaperMill$TextReader").isSome = true := by decide +kernel
  obtain ⟨x1, hx1⟩ := Option.isSome_iff_exists.mp h1
  have h2 : ((layoutMethods lamD1).bind (·[1]?)).isSome = true := by decide +kernel
  obtain ⟨x2, hx2⟩ := Option.isSome_iff_exists.mp h2
  have h3 : (layoutFields lamD1 0).isSome = true := by decide +kernel
  obtain ⟨x3, hx3⟩ := Option.isSome_iff_exists.mp h3
  refine ⟨lamD1, lamF1, lamY1, 31, 27, by simp [lamD1, hx1], fun ms hms => ?_, by simp [lamY1, hx3], by decide +kernel, by decide +kernel, by decide +kernel, by decide +kernel, fun j hj => ?_, by decide +kernel⟩
  · have hf : lamF1 = x2 := by simp [lamF1, hx2]
    rw [hms] at hx2
    rw [hf]
    exact hx2
  · match j, hj with
    | 0, _ => exact ⟨17, "arg$1", "I", by decide +kernel⟩
    | 1, _ => exact ⟨19, "arg$2", "I", by decide +kernel⟩
    | 2, _ => exact ⟨21, "arg$3", "I", by decide +kernel⟩
    | 3, _ => exact ⟨23, "arg$4", "I", by decide +kernel⟩
    | j + 4, hj => exact absurd hj (by simp)
def lamS2 : Lambda.Shape := { iface := "PaperMill$Reason", name := "holds", sam := ⟨[], some .boolean⟩, captured := [(.object "PaperMill$State")], kind := 5, implClass := "PaperMill$State", implName := "lambda$whyNotIn$0", implDesc := ⟨[], some .boolean⟩, implItf := false, inst := ⟨[], some .boolean⟩ }
def lamB2 : ByteArray := ⟨#[42, 180, 0, 15, 182, 0, 22, 172]⟩
def lamD2 : Jvm.ClassFile.ClassFile := (lamS2.file "PaperMill$State").getD { minorVersion := 0, majorVersion := 0, constantPool := #[], accessFlags := 0, thisClass := 0, superClass := 0, interfaces := #[], fields := #[], methods := #[], attributes := #[] }
def lamF2 : Method := ((layoutMethods lamD2).bind (·[1]?)).getD default
def lamY2 : Array Field × Array FieldType × Array FieldType := (layoutFields lamD2 0).getD (#[], #[], #[])
theorem lamd2_0 : decode lamB2 0 = .ok (.aload_n 0, 1) := by decide +kernel
theorem lamd2_1 : decode lamB2 1 = .ok (.getfield 15, 3) := by decide +kernel
theorem lamd2_4 : decode lamB2 4 = .ok (.invokevirtual 22, 3) := by decide +kernel
theorem lamd2_7 : decode lamB2 7 = .ok (.ireturn, 1) := by decide +kernel
theorem lams2 : lamSites.find? (fun z => z.1 == 2) = some (2, .lambdaSite ⟨"PaperMill$State", "whyNotIn", "(III)I"⟩ 7 139 lamS2) := rfl
theorem lamok2 : lamOK lamS2 "PaperMill$State" lamB2 1 (some .boolean) 22 19 [15] #[(.object "PaperMill$State")] := by
  have h1 : (lamS2.file "PaperMill$State").isSome = true := by decide +kernel
  obtain ⟨x1, hx1⟩ := Option.isSome_iff_exists.mp h1
  have h2 : ((layoutMethods lamD2).bind (·[1]?)).isSome = true := by decide +kernel
  obtain ⟨x2, hx2⟩ := Option.isSome_iff_exists.mp h2
  have h3 : (layoutFields lamD2 0).isSome = true := by decide +kernel
  obtain ⟨x3, hx3⟩ := Option.isSome_iff_exists.mp h3
  refine ⟨lamD2, lamF2, lamY2, 21, 18, by simp [lamD2, hx1], fun ms hms => ?_, by simp [lamY2, hx3], by decide +kernel, by decide +kernel, by decide +kernel, by decide +kernel, fun j hj => ?_, by decide +kernel⟩
  · have hf : lamF2 = x2 := by simp [lamF2, hx2]
    rw [hms] at hx2
    rw [hf]
    exact hx2
  · match j, hj with
    | 0, _ => exact ⟨14, "arg$1", "LPaperMill$State;", by decide +kernel⟩
    | j + 1, hj => exact absurd hj (by simp)
def lamS3 : Lambda.Shape := { iface := "PaperMill$Reason", name := "holds", sam := ⟨[], some .boolean⟩, captured := [(.object "PaperMill$State"), .int], kind := 5, implClass := "PaperMill$State", implName := "lambda$whyNotIn$1", implDesc := ⟨[.int], some .boolean⟩, implItf := false, inst := ⟨[], some .boolean⟩ }
def lamB3 : ByteArray := ⟨#[42, 180, 0, 17, 42, 180, 0, 19, 182, 0, 27, 172]⟩
def lamD3 : Jvm.ClassFile.ClassFile := (lamS3.file "PaperMill$State").getD { minorVersion := 0, majorVersion := 0, constantPool := #[], accessFlags := 0, thisClass := 0, superClass := 0, interfaces := #[], fields := #[], methods := #[], attributes := #[] }
def lamF3 : Method := ((layoutMethods lamD3).bind (·[1]?)).getD default
def lamY3 : Array Field × Array FieldType × Array FieldType := (layoutFields lamD3 0).getD (#[], #[], #[])
theorem lamd3_0 : decode lamB3 0 = .ok (.aload_n 0, 1) := by decide +kernel
theorem lamd3_1 : decode lamB3 1 = .ok (.getfield 17, 3) := by decide +kernel
theorem lamd3_4 : decode lamB3 4 = .ok (.aload_n 0, 1) := by decide +kernel
theorem lamd3_5 : decode lamB3 5 = .ok (.getfield 19, 3) := by decide +kernel
theorem lamd3_8 : decode lamB3 8 = .ok (.invokevirtual 27, 3) := by decide +kernel
theorem lamd3_11 : decode lamB3 11 = .ok (.ireturn, 1) := by decide +kernel
theorem lams3 : lamSites.find? (fun z => z.1 == 3) = some (3, .lambdaSite ⟨"PaperMill$State", "whyNotIn", "(III)I"⟩ 17 143 lamS3) := rfl
theorem lamok3 : lamOK lamS3 "PaperMill$State" lamB3 1 (some .boolean) 27 23 [17, 19] #[(.object "PaperMill$State"), .int] := by
  have h1 : (lamS3.file "PaperMill$State").isSome = true := by decide +kernel
  obtain ⟨x1, hx1⟩ := Option.isSome_iff_exists.mp h1
  have h2 : ((layoutMethods lamD3).bind (·[1]?)).isSome = true := by decide +kernel
  obtain ⟨x2, hx2⟩ := Option.isSome_iff_exists.mp h2
  have h3 : (layoutFields lamD3 0).isSome = true := by decide +kernel
  obtain ⟨x3, hx3⟩ := Option.isSome_iff_exists.mp h3
  refine ⟨lamD3, lamF3, lamY3, 26, 22, by simp [lamD3, hx1], fun ms hms => ?_, by simp [lamY3, hx3], by decide +kernel, by decide +kernel, by decide +kernel, by decide +kernel, fun j hj => ?_, by decide +kernel⟩
  · have hf : lamF3 = x2 := by simp [lamF3, hx2]
    rw [hms] at hx2
    rw [hf]
    exact hx2
  · match j, hj with
    | 0, _ => exact ⟨16, "arg$1", "LPaperMill$State;", by decide +kernel⟩
    | 1, _ => exact ⟨18, "arg$2", "I", by decide +kernel⟩
    | j + 2, hj => exact absurd hj (by simp)
def lamS4 : Lambda.Shape := { iface := "PaperMill$Reason", name := "holds", sam := ⟨[], some .boolean⟩, captured := [(.object "PaperMill$State"), .int, .int], kind := 5, implClass := "PaperMill$State", implName := "lambda$whyNotIn$2", implDesc := ⟨[.int, .int], some .boolean⟩, implItf := false, inst := ⟨[], some .boolean⟩ }
def lamB4 : ByteArray := ⟨#[42, 180, 0, 18, 42, 180, 0, 20, 42, 180, 0, 22, 182, 0, 30, 172]⟩
def lamD4 : Jvm.ClassFile.ClassFile := (lamS4.file "PaperMill$State").getD { minorVersion := 0, majorVersion := 0, constantPool := #[], accessFlags := 0, thisClass := 0, superClass := 0, interfaces := #[], fields := #[], methods := #[], attributes := #[] }
def lamF4 : Method := ((layoutMethods lamD4).bind (·[1]?)).getD default
def lamY4 : Array Field × Array FieldType × Array FieldType := (layoutFields lamD4 0).getD (#[], #[], #[])
theorem lamd4_0 : decode lamB4 0 = .ok (.aload_n 0, 1) := by decide +kernel
theorem lamd4_1 : decode lamB4 1 = .ok (.getfield 18, 3) := by decide +kernel
theorem lamd4_4 : decode lamB4 4 = .ok (.aload_n 0, 1) := by decide +kernel
theorem lamd4_5 : decode lamB4 5 = .ok (.getfield 20, 3) := by decide +kernel
theorem lamd4_8 : decode lamB4 8 = .ok (.aload_n 0, 1) := by decide +kernel
theorem lamd4_9 : decode lamB4 9 = .ok (.getfield 22, 3) := by decide +kernel
theorem lamd4_12 : decode lamB4 12 = .ok (.invokevirtual 30, 3) := by decide +kernel
theorem lamd4_15 : decode lamB4 15 = .ok (.ireturn, 1) := by decide +kernel
theorem lams4 : lamSites.find? (fun z => z.1 == 4) = some (4, .lambdaSite ⟨"PaperMill$State", "whyNotIn", "(III)I"⟩ 28 146 lamS4) := rfl
theorem lamok4 : lamOK lamS4 "PaperMill$State" lamB4 1 (some .boolean) 30 26 [18, 20, 22] #[(.object "PaperMill$State"), .int, .int] := by
  have h1 : (lamS4.file "PaperMill$State").isSome = true := by decide +kernel
  obtain ⟨x1, hx1⟩ := Option.isSome_iff_exists.mp h1
  have h2 : ((layoutMethods lamD4).bind (·[1]?)).isSome = true := by decide +kernel
  obtain ⟨x2, hx2⟩ := Option.isSome_iff_exists.mp h2
  have h3 : (layoutFields lamD4 0).isSome = true := by decide +kernel
  obtain ⟨x3, hx3⟩ := Option.isSome_iff_exists.mp h3
  refine ⟨lamD4, lamF4, lamY4, 29, 25, by simp [lamD4, hx1], fun ms hms => ?_, by simp [lamY4, hx3], by decide +kernel, by decide +kernel, by decide +kernel, by decide +kernel, fun j hj => ?_, by decide +kernel⟩
  · have hf : lamF4 = x2 := by simp [lamF4, hx2]
    rw [hms] at hx2
    rw [hf]
    exact hx2
  · match j, hj with
    | 0, _ => exact ⟨17, "arg$1", "LPaperMill$State;", by decide +kernel⟩
    | 1, _ => exact ⟨19, "arg$2", "I", by decide +kernel⟩
    | 2, _ => exact ⟨21, "arg$3", "I", by decide +kernel⟩
    | j + 3, hj => exact absurd hj (by simp)
def lamS5 : Lambda.Shape := { iface := "PaperMill$Work", name := "doIt", sam := ⟨[(.object "PaperMill$State")], some .boolean⟩, captured := [.int, .int], kind := 6, implClass := "PaperMill$TextReader", implName := "lambda$beating$2", implDesc := ⟨[.int, .int, (.object "PaperMill$State")], some .boolean⟩, implItf := false, inst := ⟨[(.object "PaperMill$State")], some .boolean⟩ }
def lamB5 : ByteArray := ⟨#[42, 180, 0, 16, 42, 180, 0, 18, 43, 184, 0, 26, 172]⟩
def lamD5 : Jvm.ClassFile.ClassFile := (lamS5.file "PaperMill$TextReader").getD { minorVersion := 0, majorVersion := 0, constantPool := #[], accessFlags := 0, thisClass := 0, superClass := 0, interfaces := #[], fields := #[], methods := #[], attributes := #[] }
def lamF5 : Method := ((layoutMethods lamD5).bind (·[1]?)).getD default
def lamY5 : Array Field × Array FieldType × Array FieldType := (layoutFields lamD5 0).getD (#[], #[], #[])
theorem lamd5_0 : decode lamB5 0 = .ok (.aload_n 0, 1) := by decide +kernel
theorem lamd5_1 : decode lamB5 1 = .ok (.getfield 16, 3) := by decide +kernel
theorem lamd5_4 : decode lamB5 4 = .ok (.aload_n 0, 1) := by decide +kernel
theorem lamd5_5 : decode lamB5 5 = .ok (.getfield 18, 3) := by decide +kernel
theorem lamd5_8 : decode lamB5 8 = .ok (.aload_n 1, 1) := by decide +kernel
theorem lamd5_9 : decode lamB5 9 = .ok (.invokestatic 26, 3) := by decide +kernel
theorem lamd5_12 : decode lamB5 12 = .ok (.ireturn, 1) := by decide +kernel
theorem lams5 : lamSites.find? (fun z => z.1 == 5) = some (5, .lambdaSite ⟨"PaperMill$TextReader", "beating", "(I)LPaperMill$Work;"⟩ 17 128 lamS5) := rfl
theorem lamok5 : lamOK lamS5 "PaperMill$TextReader" lamB5 2 (some .boolean) 26 22 [16, 18] #[.int, .int] := by
  have h1 : (lamS5.file "PaperMill$TextReader").isSome = true := by decide +kernel
  obtain ⟨x1, hx1⟩ := Option.isSome_iff_exists.mp h1
  have h2 : ((layoutMethods lamD5).bind (·[1]?)).isSome = true := by decide +kernel
  obtain ⟨x2, hx2⟩ := Option.isSome_iff_exists.mp h2
  have h3 : (layoutFields lamD5 0).isSome = true := by decide +kernel
  obtain ⟨x3, hx3⟩ := Option.isSome_iff_exists.mp h3
  refine ⟨lamD5, lamF5, lamY5, 25, 21, by simp [lamD5, hx1], fun ms hms => ?_, by simp [lamY5, hx3], by decide +kernel, by decide +kernel, by decide +kernel, by decide +kernel, fun j hj => ?_, by decide +kernel⟩
  · have hf : lamF5 = x2 := by simp [lamF5, hx2]
    rw [hms] at hx2
    rw [hf]
    exact hx2
  · match j, hj with
    | 0, _ => exact ⟨15, "arg$1", "I", by decide +kernel⟩
    | 1, _ => exact ⟨17, "arg$2", "I", by decide +kernel⟩
    | j + 2, hj => exact absurd hj (by simp)
def lamS6 : Lambda.Shape := { iface := "PaperMill$Work", name := "doIt", sam := ⟨[(.object "PaperMill$State")], some .boolean⟩, captured := [.int, .int], kind := 6, implClass := "PaperMill$TextReader", implName := "lambda$stamping$3", implDesc := ⟨[.int, .int, (.object "PaperMill$State")], some .boolean⟩, implItf := false, inst := ⟨[(.object "PaperMill$State")], some .boolean⟩ }
def lamB6 : ByteArray := ⟨#[42, 180, 0, 16, 42, 180, 0, 18, 43, 184, 0, 26, 172]⟩
def lamD6 : Jvm.ClassFile.ClassFile := (lamS6.file "PaperMill$TextReader").getD { minorVersion := 0, majorVersion := 0, constantPool := #[], accessFlags := 0, thisClass := 0, superClass := 0, interfaces := #[], fields := #[], methods := #[], attributes := #[] }
def lamF6 : Method := ((layoutMethods lamD6).bind (·[1]?)).getD default
def lamY6 : Array Field × Array FieldType × Array FieldType := (layoutFields lamD6 0).getD (#[], #[], #[])
theorem lamd6_0 : decode lamB6 0 = .ok (.aload_n 0, 1) := by decide +kernel
theorem lamd6_1 : decode lamB6 1 = .ok (.getfield 16, 3) := by decide +kernel
theorem lamd6_4 : decode lamB6 4 = .ok (.aload_n 0, 1) := by decide +kernel
theorem lamd6_5 : decode lamB6 5 = .ok (.getfield 18, 3) := by decide +kernel
theorem lamd6_8 : decode lamB6 8 = .ok (.aload_n 1, 1) := by decide +kernel
theorem lamd6_9 : decode lamB6 9 = .ok (.invokestatic 26, 3) := by decide +kernel
theorem lamd6_12 : decode lamB6 12 = .ok (.ireturn, 1) := by decide +kernel
theorem lams6 : lamSites.find? (fun z => z.1 == 6) = some (6, .lambdaSite ⟨"PaperMill$TextReader", "stamping", "(I)LPaperMill$Work;"⟩ 16 130 lamS6) := rfl
theorem lamok6 : lamOK lamS6 "PaperMill$TextReader" lamB6 2 (some .boolean) 26 22 [16, 18] #[.int, .int] := by
  have h1 : (lamS6.file "PaperMill$TextReader").isSome = true := by decide +kernel
  obtain ⟨x1, hx1⟩ := Option.isSome_iff_exists.mp h1
  have h2 : ((layoutMethods lamD6).bind (·[1]?)).isSome = true := by decide +kernel
  obtain ⟨x2, hx2⟩ := Option.isSome_iff_exists.mp h2
  have h3 : (layoutFields lamD6 0).isSome = true := by decide +kernel
  obtain ⟨x3, hx3⟩ := Option.isSome_iff_exists.mp h3
  refine ⟨lamD6, lamF6, lamY6, 25, 21, by simp [lamD6, hx1], fun ms hms => ?_, by simp [lamY6, hx3], by decide +kernel, by decide +kernel, by decide +kernel, by decide +kernel, fun j hj => ?_, by decide +kernel⟩
  · have hf : lamF6 = x2 := by simp [lamF6, hx2]
    rw [hms] at hx2
    rw [hf]
    exact hx2
  · match j, hj with
    | 0, _ => exact ⟨15, "arg$1", "I", by decide +kernel⟩
    | 1, _ => exact ⟨17, "arg$2", "I", by decide +kernel⟩
    | j + 2, hj => exact absurd hj (by simp)
def lamS7 : Lambda.Shape := { iface := "PaperMill$Work", name := "doIt", sam := ⟨[(.object "PaperMill$State")], some .boolean⟩, captured := [.int, .int, .int], kind := 6, implClass := "PaperMill$TextReader", implName := "lambda$making$4", implDesc := ⟨[.int, .int, .int, (.object "PaperMill$State")], some .boolean⟩, implItf := false, inst := ⟨[(.object "PaperMill$State")], some .boolean⟩ }
def lamB7 : ByteArray := ⟨#[42, 180, 0, 17, 42, 180, 0, 19, 42, 180, 0, 21, 43, 184, 0, 29, 172]⟩
def lamD7 : Jvm.ClassFile.ClassFile := (lamS7.file "PaperMill$TextReader").getD { minorVersion := 0, majorVersion := 0, constantPool := #[], accessFlags := 0, thisClass := 0, superClass := 0, interfaces := #[], fields := #[], methods := #[], attributes := #[] }
def lamF7 : Method := ((layoutMethods lamD7).bind (·[1]?)).getD default
def lamY7 : Array Field × Array FieldType × Array FieldType := (layoutFields lamD7 0).getD (#[], #[], #[])
theorem lamd7_0 : decode lamB7 0 = .ok (.aload_n 0, 1) := by decide +kernel
theorem lamd7_1 : decode lamB7 1 = .ok (.getfield 17, 3) := by decide +kernel
theorem lamd7_4 : decode lamB7 4 = .ok (.aload_n 0, 1) := by decide +kernel
theorem lamd7_5 : decode lamB7 5 = .ok (.getfield 19, 3) := by decide +kernel
theorem lamd7_8 : decode lamB7 8 = .ok (.aload_n 0, 1) := by decide +kernel
theorem lamd7_9 : decode lamB7 9 = .ok (.getfield 21, 3) := by decide +kernel
theorem lamd7_12 : decode lamB7 12 = .ok (.aload_n 1, 1) := by decide +kernel
theorem lamd7_13 : decode lamB7 13 = .ok (.invokestatic 29, 3) := by decide +kernel
theorem lamd7_16 : decode lamB7 16 = .ok (.ireturn, 1) := by decide +kernel
theorem lams7 : lamSites.find? (fun z => z.1 == 7) = some (7, .lambdaSite ⟨"PaperMill$TextReader", "making", "(II)LPaperMill$Work;"⟩ 18 131 lamS7) := rfl
theorem lamok7 : lamOK lamS7 "PaperMill$TextReader" lamB7 2 (some .boolean) 29 25 [17, 19, 21] #[.int, .int, .int] := by
  have h1 : (lamS7.file "PaperMill$TextReader").isSome = true := by decide +kernel
  obtain ⟨x1, hx1⟩ := Option.isSome_iff_exists.mp h1
  have h2 : ((layoutMethods lamD7).bind (·[1]?)).isSome = true := by decide +kernel
  obtain ⟨x2, hx2⟩ := Option.isSome_iff_exists.mp h2
  have h3 : (layoutFields lamD7 0).isSome = true := by decide +kernel
  obtain ⟨x3, hx3⟩ := Option.isSome_iff_exists.mp h3
  refine ⟨lamD7, lamF7, lamY7, 28, 24, by simp [lamD7, hx1], fun ms hms => ?_, by simp [lamY7, hx3], by decide +kernel, by decide +kernel, by decide +kernel, by decide +kernel, fun j hj => ?_, by decide +kernel⟩
  · have hf : lamF7 = x2 := by simp [lamF7, hx2]
    rw [hms] at hx2
    rw [hf]
    exact hx2
  · match j, hj with
    | 0, _ => exact ⟨16, "arg$1", "I", by decide +kernel⟩
    | 1, _ => exact ⟨18, "arg$2", "I", by decide +kernel⟩
    | 2, _ => exact ⟨20, "arg$3", "I", by decide +kernel⟩
    | j + 3, hj => exact absurd hj (by simp)
def lamS8 : Lambda.Shape := { iface := "PaperMill$Reason", name := "holds", sam := ⟨[], some .boolean⟩, captured := [(.object "PaperMill$Vat")], kind := 6, implClass := "PaperMill$State", implName := "lambda$whyNotMade$3", implDesc := ⟨[(.object "PaperMill$Vat")], some .boolean⟩, implItf := false, inst := ⟨[], some .boolean⟩ }
def lamB8 : ByteArray := ⟨#[42, 180, 0, 15, 184, 0, 23, 172]⟩
def lamD8 : Jvm.ClassFile.ClassFile := (lamS8.file "PaperMill$State").getD { minorVersion := 0, majorVersion := 0, constantPool := #[], accessFlags := 0, thisClass := 0, superClass := 0, interfaces := #[], fields := #[], methods := #[], attributes := #[] }
def lamF8 : Method := ((layoutMethods lamD8).bind (·[1]?)).getD default
def lamY8 : Array Field × Array FieldType × Array FieldType := (layoutFields lamD8 0).getD (#[], #[], #[])
theorem lamd8_0 : decode lamB8 0 = .ok (.aload_n 0, 1) := by decide +kernel
theorem lamd8_1 : decode lamB8 1 = .ok (.getfield 15, 3) := by decide +kernel
theorem lamd8_4 : decode lamB8 4 = .ok (.invokestatic 23, 3) := by decide +kernel
theorem lamd8_7 : decode lamB8 7 = .ok (.ireturn, 1) := by decide +kernel
theorem lams8 : lamSites.find? (fun z => z.1 == 8) = some (8, .lambdaSite ⟨"PaperMill$State", "whyNotMade", "(III)I"⟩ 38 224 lamS8) := rfl
theorem lamok8 : lamOK lamS8 "PaperMill$State" lamB8 1 (some .boolean) 23 19 [15] #[(.object "PaperMill$Vat")] := by
  have h1 : (lamS8.file "PaperMill$State").isSome = true := by decide +kernel
  obtain ⟨x1, hx1⟩ := Option.isSome_iff_exists.mp h1
  have h2 : ((layoutMethods lamD8).bind (·[1]?)).isSome = true := by decide +kernel
  obtain ⟨x2, hx2⟩ := Option.isSome_iff_exists.mp h2
  have h3 : (layoutFields lamD8 0).isSome = true := by decide +kernel
  obtain ⟨x3, hx3⟩ := Option.isSome_iff_exists.mp h3
  refine ⟨lamD8, lamF8, lamY8, 22, 18, by simp [lamD8, hx1], fun ms hms => ?_, by simp [lamY8, hx3], by decide +kernel, by decide +kernel, by decide +kernel, by decide +kernel, fun j hj => ?_, by decide +kernel⟩
  · have hf : lamF8 = x2 := by simp [lamF8, hx2]
    rw [hms] at hx2
    rw [hf]
    exact hx2
  · match j, hj with
    | 0, _ => exact ⟨14, "arg$1", "LPaperMill$Vat;", by decide +kernel⟩
    | j + 1, hj => exact absurd hj (by simp)
def lamS9 : Lambda.Shape := { iface := "PaperMill$Reason", name := "holds", sam := ⟨[], some .boolean⟩, captured := [.int, (.object "PaperMill$Mould"), (.object "PaperMill$Vat")], kind := 6, implClass := "PaperMill$State", implName := "lambda$whyNotMade$4", implDesc := ⟨[.int, (.object "PaperMill$Mould"), (.object "PaperMill$Vat")], some .boolean⟩, implItf := false, inst := ⟨[], some .boolean⟩ }
def lamB9 : ByteArray := ⟨#[42, 180, 0, 19, 42, 180, 0, 21, 42, 180, 0, 23, 184, 0, 31, 172]⟩
def lamD9 : Jvm.ClassFile.ClassFile := (lamS9.file "PaperMill$State").getD { minorVersion := 0, majorVersion := 0, constantPool := #[], accessFlags := 0, thisClass := 0, superClass := 0, interfaces := #[], fields := #[], methods := #[], attributes := #[] }
def lamF9 : Method := ((layoutMethods lamD9).bind (·[1]?)).getD default
def lamY9 : Array Field × Array FieldType × Array FieldType := (layoutFields lamD9 0).getD (#[], #[], #[])
theorem lamd9_0 : decode lamB9 0 = .ok (.aload_n 0, 1) := by decide +kernel
theorem lamd9_1 : decode lamB9 1 = .ok (.getfield 19, 3) := by decide +kernel
theorem lamd9_4 : decode lamB9 4 = .ok (.aload_n 0, 1) := by decide +kernel
theorem lamd9_5 : decode lamB9 5 = .ok (.getfield 21, 3) := by decide +kernel
theorem lamd9_8 : decode lamB9 8 = .ok (.aload_n 0, 1) := by decide +kernel
theorem lamd9_9 : decode lamB9 9 = .ok (.getfield 23, 3) := by decide +kernel
theorem lamd9_12 : decode lamB9 12 = .ok (.invokestatic 31, 3) := by decide +kernel
theorem lamd9_15 : decode lamB9 15 = .ok (.ireturn, 1) := by decide +kernel
theorem lams9 : lamSites.find? (fun z => z.1 == 9) = some (9, .lambdaSite ⟨"PaperMill$State", "whyNotMade", "(III)I"⟩ 51 227 lamS9) := rfl
theorem lamok9 : lamOK lamS9 "PaperMill$State" lamB9 1 (some .boolean) 31 27 [19, 21, 23] #[.int, (.object "PaperMill$Mould"), (.object "PaperMill$Vat")] := by
  have h1 : (lamS9.file "PaperMill$State").isSome = true := by decide +kernel
  obtain ⟨x1, hx1⟩ := Option.isSome_iff_exists.mp h1
  have h2 : ((layoutMethods lamD9).bind (·[1]?)).isSome = true := by decide +kernel
  obtain ⟨x2, hx2⟩ := Option.isSome_iff_exists.mp h2
  have h3 : (layoutFields lamD9 0).isSome = true := by decide +kernel
  obtain ⟨x3, hx3⟩ := Option.isSome_iff_exists.mp h3
  refine ⟨lamD9, lamF9, lamY9, 30, 26, by simp [lamD9, hx1], fun ms hms => ?_, by simp [lamY9, hx3], by decide +kernel, by decide +kernel, by decide +kernel, by decide +kernel, fun j hj => ?_, by decide +kernel⟩
  · have hf : lamF9 = x2 := by simp [lamF9, hx2]
    rw [hms] at hx2
    rw [hf]
    exact hx2
  · match j, hj with
    | 0, _ => exact ⟨18, "arg$1", "I", by decide +kernel⟩
    | 1, _ => exact ⟨20, "arg$2", "LPaperMill$Mould;", by decide +kernel⟩
    | 2, _ => exact ⟨22, "arg$3", "LPaperMill$Vat;", by decide +kernel⟩
    | j + 3, hj => exact absurd hj (by simp)
def lamS10 : Lambda.Shape := { iface := "PaperMill$Reason", name := "holds", sam := ⟨[], some .boolean⟩, captured := [(.object "PaperMill$Mould"), .int], kind := 6, implClass := "PaperMill$State", implName := "lambda$whyNotMade$5", implDesc := ⟨[(.object "PaperMill$Mould"), .int], some .boolean⟩, implItf := false, inst := ⟨[], some .boolean⟩ }
def lamB10 : ByteArray := ⟨#[42, 180, 0, 17, 42, 180, 0, 19, 184, 0, 27, 172]⟩
def lamD10 : Jvm.ClassFile.ClassFile := (lamS10.file "PaperMill$State").getD { minorVersion := 0, majorVersion := 0, constantPool := #[], accessFlags := 0, thisClass := 0, superClass := 0, interfaces := #[], fields := #[], methods := #[], attributes := #[] }
def lamF10 : Method := ((layoutMethods lamD10).bind (·[1]?)).getD default
def lamY10 : Array Field × Array FieldType × Array FieldType := (layoutFields lamD10 0).getD (#[], #[], #[])
theorem lamd10_0 : decode lamB10 0 = .ok (.aload_n 0, 1) := by decide +kernel
theorem lamd10_1 : decode lamB10 1 = .ok (.getfield 17, 3) := by decide +kernel
theorem lamd10_4 : decode lamB10 4 = .ok (.aload_n 0, 1) := by decide +kernel
theorem lamd10_5 : decode lamB10 5 = .ok (.getfield 19, 3) := by decide +kernel
theorem lamd10_8 : decode lamB10 8 = .ok (.invokestatic 27, 3) := by decide +kernel
theorem lamd10_11 : decode lamB10 11 = .ok (.ireturn, 1) := by decide +kernel
theorem lams10 : lamSites.find? (fun z => z.1 == 10) = some (10, .lambdaSite ⟨"PaperMill$State", "whyNotMade", "(III)I"⟩ 62 230 lamS10) := rfl
theorem lamok10 : lamOK lamS10 "PaperMill$State" lamB10 1 (some .boolean) 27 23 [17, 19] #[(.object "PaperMill$Mould"), .int] := by
  have h1 : (lamS10.file "PaperMill$State").isSome = true := by decide +kernel
  obtain ⟨x1, hx1⟩ := Option.isSome_iff_exists.mp h1
  have h2 : ((layoutMethods lamD10).bind (·[1]?)).isSome = true := by decide +kernel
  obtain ⟨x2, hx2⟩ := Option.isSome_iff_exists.mp h2
  have h3 : (layoutFields lamD10 0).isSome = true := by decide +kernel
  obtain ⟨x3, hx3⟩ := Option.isSome_iff_exists.mp h3
  refine ⟨lamD10, lamF10, lamY10, 26, 22, by simp [lamD10, hx1], fun ms hms => ?_, by simp [lamY10, hx3], by decide +kernel, by decide +kernel, by decide +kernel, by decide +kernel, fun j hj => ?_, by decide +kernel⟩
  · have hf : lamF10 = x2 := by simp [lamF10, hx2]
    rw [hms] at hx2
    rw [hf]
    exact hx2
  · match j, hj with
    | 0, _ => exact ⟨16, "arg$1", "LPaperMill$Mould;", by decide +kernel⟩
    | 1, _ => exact ⟨18, "arg$2", "I", by decide +kernel⟩
    | j + 2, hj => exact absurd hj (by simp)
def lamS11 : Lambda.Shape := { iface := "PaperMill$Reason", name := "holds", sam := ⟨[], some .boolean⟩, captured := [(.object "PaperMill$State")], kind := 5, implClass := "PaperMill$State", implName := "lambda$whyNotMade$6", implDesc := ⟨[], some .boolean⟩, implItf := false, inst := ⟨[], some .boolean⟩ }
def lamB11 : ByteArray := ⟨#[42, 180, 0, 15, 182, 0, 22, 172]⟩
def lamD11 : Jvm.ClassFile.ClassFile := (lamS11.file "PaperMill$State").getD { minorVersion := 0, majorVersion := 0, constantPool := #[], accessFlags := 0, thisClass := 0, superClass := 0, interfaces := #[], fields := #[], methods := #[], attributes := #[] }
def lamF11 : Method := ((layoutMethods lamD11).bind (·[1]?)).getD default
def lamY11 : Array Field × Array FieldType × Array FieldType := (layoutFields lamD11 0).getD (#[], #[], #[])
theorem lamd11_0 : decode lamB11 0 = .ok (.aload_n 0, 1) := by decide +kernel
theorem lamd11_1 : decode lamB11 1 = .ok (.getfield 15, 3) := by decide +kernel
theorem lamd11_4 : decode lamB11 4 = .ok (.invokevirtual 22, 3) := by decide +kernel
theorem lamd11_7 : decode lamB11 7 = .ok (.ireturn, 1) := by decide +kernel
theorem lams11 : lamSites.find? (fun z => z.1 == 11) = some (11, .lambdaSite ⟨"PaperMill$State", "whyNotMade", "(III)I"⟩ 71 233 lamS11) := rfl
theorem lamok11 : lamOK lamS11 "PaperMill$State" lamB11 1 (some .boolean) 22 19 [15] #[(.object "PaperMill$State")] := by
  have h1 : (lamS11.file "PaperMill$State").isSome = true := by decide +kernel
  obtain ⟨x1, hx1⟩ := Option.isSome_iff_exists.mp h1
  have h2 : ((layoutMethods lamD11).bind (·[1]?)).isSome = true := by decide +kernel
  obtain ⟨x2, hx2⟩ := Option.isSome_iff_exists.mp h2
  have h3 : (layoutFields lamD11 0).isSome = true := by decide +kernel
  obtain ⟨x3, hx3⟩ := Option.isSome_iff_exists.mp h3
  refine ⟨lamD11, lamF11, lamY11, 21, 18, by simp [lamD11, hx1], fun ms hms => ?_, by simp [lamY11, hx3], by decide +kernel, by decide +kernel, by decide +kernel, by decide +kernel, fun j hj => ?_, by decide +kernel⟩
  · have hf : lamF11 = x2 := by simp [lamF11, hx2]
    rw [hms] at hx2
    rw [hf]
    exact hx2
  · match j, hj with
    | 0, _ => exact ⟨14, "arg$1", "LPaperMill$State;", by decide +kernel⟩
    | j + 1, hj => exact absurd hj (by simp)
def lamS12 : Lambda.Shape := { iface := "PaperMill$Reason", name := "holds", sam := ⟨[], some .boolean⟩, captured := [(.object "PaperMill$State"), .int, .int], kind := 5, implClass := "PaperMill$State", implName := "lambda$whyNotMade$7", implDesc := ⟨[.int, .int], some .boolean⟩, implItf := false, inst := ⟨[], some .boolean⟩ }
def lamB12 : ByteArray := ⟨#[42, 180, 0, 18, 42, 180, 0, 20, 42, 180, 0, 22, 182, 0, 30, 172]⟩
def lamD12 : Jvm.ClassFile.ClassFile := (lamS12.file "PaperMill$State").getD { minorVersion := 0, majorVersion := 0, constantPool := #[], accessFlags := 0, thisClass := 0, superClass := 0, interfaces := #[], fields := #[], methods := #[], attributes := #[] }
def lamF12 : Method := ((layoutMethods lamD12).bind (·[1]?)).getD default
def lamY12 : Array Field × Array FieldType × Array FieldType := (layoutFields lamD12 0).getD (#[], #[], #[])
theorem lamd12_0 : decode lamB12 0 = .ok (.aload_n 0, 1) := by decide +kernel
theorem lamd12_1 : decode lamB12 1 = .ok (.getfield 18, 3) := by decide +kernel
theorem lamd12_4 : decode lamB12 4 = .ok (.aload_n 0, 1) := by decide +kernel
theorem lamd12_5 : decode lamB12 5 = .ok (.getfield 20, 3) := by decide +kernel
theorem lamd12_8 : decode lamB12 8 = .ok (.aload_n 0, 1) := by decide +kernel
theorem lamd12_9 : decode lamB12 9 = .ok (.getfield 22, 3) := by decide +kernel
theorem lamd12_12 : decode lamB12 12 = .ok (.invokevirtual 30, 3) := by decide +kernel
theorem lamd12_15 : decode lamB12 15 = .ok (.ireturn, 1) := by decide +kernel
theorem lams12 : lamSites.find? (fun z => z.1 == 12) = some (12, .lambdaSite ⟨"PaperMill$State", "whyNotMade", "(III)I"⟩ 82 234 lamS12) := rfl
theorem lamok12 : lamOK lamS12 "PaperMill$State" lamB12 1 (some .boolean) 30 26 [18, 20, 22] #[(.object "PaperMill$State"), .int, .int] := by
  have h1 : (lamS12.file "PaperMill$State").isSome = true := by decide +kernel
  obtain ⟨x1, hx1⟩ := Option.isSome_iff_exists.mp h1
  have h2 : ((layoutMethods lamD12).bind (·[1]?)).isSome = true := by decide +kernel
  obtain ⟨x2, hx2⟩ := Option.isSome_iff_exists.mp h2
  have h3 : (layoutFields lamD12 0).isSome = true := by decide +kernel
  obtain ⟨x3, hx3⟩ := Option.isSome_iff_exists.mp h3
  refine ⟨lamD12, lamF12, lamY12, 29, 25, by simp [lamD12, hx1], fun ms hms => ?_, by simp [lamY12, hx3], by decide +kernel, by decide +kernel, by decide +kernel, by decide +kernel, fun j hj => ?_, by decide +kernel⟩
  · have hf : lamF12 = x2 := by simp [lamF12, hx2]
    rw [hms] at hx2
    rw [hf]
    exact hx2
  · match j, hj with
    | 0, _ => exact ⟨17, "arg$1", "LPaperMill$State;", by decide +kernel⟩
    | 1, _ => exact ⟨19, "arg$2", "I", by decide +kernel⟩
    | 2, _ => exact ⟨21, "arg$3", "I", by decide +kernel⟩
    | j + 3, hj => exact absurd hj (by simp)
def lamS13 : Lambda.Shape := { iface := "PaperMill$Work", name := "doIt", sam := ⟨[(.object "PaperMill$State")], some .boolean⟩, captured := [.int], kind := 6, implClass := "PaperMill$TextReader", implName := "lambda$passing$5", implDesc := ⟨[.int, (.object "PaperMill$State")], some .boolean⟩, implItf := false, inst := ⟨[(.object "PaperMill$State")], some .boolean⟩ }
def lamB13 : ByteArray := ⟨#[42, 180, 0, 15, 43, 184, 0, 23, 172]⟩
def lamD13 : Jvm.ClassFile.ClassFile := (lamS13.file "PaperMill$TextReader").getD { minorVersion := 0, majorVersion := 0, constantPool := #[], accessFlags := 0, thisClass := 0, superClass := 0, interfaces := #[], fields := #[], methods := #[], attributes := #[] }
def lamF13 : Method := ((layoutMethods lamD13).bind (·[1]?)).getD default
def lamY13 : Array Field × Array FieldType × Array FieldType := (layoutFields lamD13 0).getD (#[], #[], #[])
theorem lamd13_0 : decode lamB13 0 = .ok (.aload_n 0, 1) := by decide +kernel
theorem lamd13_1 : decode lamB13 1 = .ok (.getfield 15, 3) := by decide +kernel
theorem lamd13_4 : decode lamB13 4 = .ok (.aload_n 1, 1) := by decide +kernel
theorem lamd13_5 : decode lamB13 5 = .ok (.invokestatic 23, 3) := by decide +kernel
theorem lamd13_8 : decode lamB13 8 = .ok (.ireturn, 1) := by decide +kernel
theorem lams13 : lamSites.find? (fun z => z.1 == 13) = some (13, .lambdaSite ⟨"PaperMill$TextReader", "passing", "(I)LPaperMill$Work;"⟩ 1 134 lamS13) := rfl
theorem lamok13 : lamOK lamS13 "PaperMill$TextReader" lamB13 2 (some .boolean) 23 19 [15] #[.int] := by
  have h1 : (lamS13.file "PaperMill$TextReader").isSome = true := by decide +kernel
  obtain ⟨x1, hx1⟩ := Option.isSome_iff_exists.mp h1
  have h2 : ((layoutMethods lamD13).bind (·[1]?)).isSome = true := by decide +kernel
  obtain ⟨x2, hx2⟩ := Option.isSome_iff_exists.mp h2
  have h3 : (layoutFields lamD13 0).isSome = true := by decide +kernel
  obtain ⟨x3, hx3⟩ := Option.isSome_iff_exists.mp h3
  refine ⟨lamD13, lamF13, lamY13, 22, 18, by simp [lamD13, hx1], fun ms hms => ?_, by simp [lamY13, hx3], by decide +kernel, by decide +kernel, by decide +kernel, by decide +kernel, fun j hj => ?_, by decide +kernel⟩
  · have hf : lamF13 = x2 := by simp [lamF13, hx2]
    rw [hms] at hx2
    rw [hf]
    exact hx2
  · match j, hj with
    | 0, _ => exact ⟨14, "arg$1", "I", by decide +kernel⟩
    | j + 1, hj => exact absurd hj (by simp)
end ZLAM6

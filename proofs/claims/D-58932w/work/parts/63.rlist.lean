/-! THE STATE's LISTS, by List: rows -/
section ZRL
variable {C : ZC} {cc : ByteArray} {own : String} {nL : Nat} {ret : Option FieldType} {d mc ms : Nat} {post : Option Value → GH → Prop} {px : String → GH → Prop} {k n : Nat} {L : List (Option Value)} {pc pc' : Nat} {st : List Value} {h1 h0 : GH} {F : Nat → Prop} {sh : Sh} {f : Int → Int} {rc : Nat} {Ls : Nat → ELs} {b : Nat → Nat}
theorem rX.stA {h : GH} (a : rX b h0 F sh (f, rc, Ls) h) : h sh.1 = some (zO 1 (stF sh f rc)) := a.1.1
theorem rX.el0 {h : GH} (a : rX b h0 F sh (f, rc, Ls) h) {j q : Nat} {e : El} (hk : (Ls 0)[j]? = some (q, e)) : h q = some (zO 3 [vI e.1, vI e.2.1]) := a.1.el (i := 0) (by decide) hk
theorem rX.el1 {h : GH} (a : rX b h0 F sh (f, rc, Ls) h) {j q : Nat} {e : El} (hk : (Ls 1)[j]? = some (q, e)) : h q = some (zO 7 [vI e.1, vI e.2.1, vI e.2.2.1, vI e.2.2.2.1, vI e.2.2.2.2]) := a.1.el (i := 1) (by decide) hk
theorem rX.el2 {h : GH} (a : rX b h0 F sh (f, rc, Ls) h) {j q : Nat} {e : El} (hk : (Ls 2)[j]? = some (q, e)) : h q = some (zO 4 [vI e.1, vI e.2.1, vI e.2.2.1]) := a.1.el (i := 2) (by decide) hk
theorem rX.el3 {h : GH} (a : rX b h0 F sh (f, rc, Ls) h) {j q : Nat} {e : El} (hk : (Ls 3)[j]? = some (q, e)) : h q = some (zO 5 [vR (b e.1.toNat), vI e.2.1, vI e.2.2.1, vI e.2.2.2.1]) := a.1.el (i := 3) (by decide) hk
theorem rX.el4 {h : GH} (a : rX b h0 F sh (f, rc, Ls) h) {j q : Nat} {e : El} (hk : (Ls 4)[j]? = some (q, e)) : h q = some (zO 8 [vI e.1, vR (b e.2.1.toNat), vR (b (3 + e.2.2.1.toNat)), vI e.2.2.2.1, vI e.2.2.2.2]) := a.1.el (i := 4) (by decide) hk
theorem rX.el5 {h : GH} (a : rX b h0 F sh (f, rc, Ls) h) {j q : Nat} {e : El} (hk : (Ls 5)[j]? = some (q, e)) : h q = some (zO 9 [vR (b e.1.toNat), vR (b (3 + e.2.1.toNat)), vI e.2.2.1]) := a.1.el (i := 5) (by decide) hk
theorem mxA.congr {h : GH} {p p' : Int → Int} {d' dd : Int} (hp : ∀ j, 0 ≤ j → j < 4 → p' j = p j) (hd : d' = dd) : ∀ {n q : Nat}, mxA h n q p dd → mxA h n q p' d'
  | 0, _, a => a
  | n + 1, q, a => by
    rcases a with ⟨s, t, e, r0, r, r2⟩ | ⟨x, y, p1, p2, d1, d2, e, a1, a2, r, r2⟩ | ⟨x, t, p1, d1, e, a1, r, r2⟩
    · exact Or.inl ⟨s, t, e, r0, fun j u v => (hp j u v).trans (r j u v), hd.trans r2⟩
    · exact Or.inr (Or.inl ⟨x, y, p1, p2, d1, d2, e, a1, a2, fun j u v => (hp j u v).trans (r j u v), hd.trans r2⟩)
    · exact Or.inr (Or.inr ⟨x, t, p1, d1, e, a1, fun j u v => (hp j u v).trans (r j u v), hd.trans r2⟩)
theorem rX.numZ {h : GH} (a : rX b h0 F sh (f, rc, Ls) h) {j z : Int} (hj : j < 8 ∨ 12 < j) {c : zE} (hc : c = zO 1 (stF sh (iup f j z) rc)) : rX b h0 F sh (iup f j z, rc, Ls) (hset h sh.1 c) :=
  a.num _ _ hc (a.1.2.2.2.2.2.2.congr (fun i _ _ => iup_n (by omega)) (iup_n (by omega)))
theorem rX.num0 {h : GH} (a : rX b h0 F sh (f, rc, Ls) h) {z : Int} : rX b h0 F sh (iup f 0 z, rc, Ls) (hset h sh.1 (zO 1 ((stF sh f rc).set 0 (vI z)))) := a.numZ (by decide) rfl
theorem rX.num1 {h : GH} (a : rX b h0 F sh (f, rc, Ls) h) {z : Int} : rX b h0 F sh (iup f 1 z, rc, Ls) (hset h sh.1 (zO 1 ((stF sh f rc).set 1 (vI z)))) := a.numZ (by decide) rfl
theorem rX.num2 {h : GH} (a : rX b h0 F sh (f, rc, Ls) h) {z : Int} : rX b h0 F sh (iup f 3 z, rc, Ls) (hset h sh.1 (zO 1 ((stF sh f rc).set 2 (vI z)))) := a.numZ (by decide) rfl
theorem rX.num3 {h : GH} (a : rX b h0 F sh (f, rc, Ls) h) {z : Int} : rX b h0 F sh (iup f 2 z, rc, Ls) (hset h sh.1 (zO 1 ((stF sh f rc).set 3 (vI z)))) := a.numZ (by decide) rfl
theorem rX.num5 {h : GH} (a : rX b h0 F sh (f, rc, Ls) h) {z : Int} : rX b h0 F sh (iup f 201 z, rc, Ls) (hset h sh.1 (zO 1 ((stF sh f rc).set 5 (vI z)))) := a.numZ (by decide) rfl
theorem rX.num6 {h : GH} (a : rX b h0 F sh (f, rc, Ls) h) {z : Int} : rX b h0 F sh (iup f 202 z, rc, Ls) (hset h sh.1 (zO 1 ((stF sh f rc).set 6 (vI z)))) := a.numZ (by decide) rfl
theorem rX.num7 {h : GH} (a : rX b h0 F sh (f, rc, Ls) h) {z : Int} : rX b h0 F sh (iup f 203 z, rc, Ls) (hset h sh.1 (zO 1 ((stF sh f rc).set 7 (vI z)))) := a.numZ (by decide) rfl
theorem rX.num8 {h : GH} (a : rX b h0 F sh (f, rc, Ls) h) {z : Int} : rX b h0 F sh (iup f 204 z, rc, Ls) (hset h sh.1 (zO 1 ((stF sh f rc).set 8 (vI z)))) := a.numZ (by decide) rfl
theorem rX.num9 {h : GH} (a : rX b h0 F sh (f, rc, Ls) h) {z : Int} : rX b h0 F sh (iup f 7 z, rc, Ls) (hset h sh.1 (zO 1 ((stF sh f rc).set 9 (vI z)))) := a.numZ (by decide) rfl
theorem rX.num10 {h : GH} (a : rX b h0 F sh (f, rc, Ls) h) {z : Int} : rX b h0 F sh (iup f 205 z, rc, Ls) (hset h sh.1 (zO 1 ((stF sh f rc).set 10 (vI z)))) := a.numZ (by decide) rfl
theorem pp_at {α : Type} {x y : List α} {v : α} : (x ++ v :: y)[x.length]? = some v := by
  rw [List.getElem?_append_right (Nat.le_refl _), Nat.sub_self]
  rfl
theorem pp_set {α : Type} {y : List α} {v w : α} : ∀ {x : List α}, (x ++ v :: y).set x.length w = x ++ w :: y
  | [] => rfl
  | a :: t => by
    show a :: (t ++ v :: y).set t.length w = _
    rw [pp_set]
    rfl
theorem set_at {α : Type} {x : List α} {i : Nat} {v w : α} (h : x[i]? = some v) : (x.set i w)[i]? = some w := by
  rw [List.getElem?_set_self (List.getElem?_eq_some_iff.mp h).1]
theorem rX.elemA {h : GH} {i q : Nat} {e e' : El} {x y : ELs} (a : rX b h0 F sh (f, rc, lup Ls i (x ++ (q, e) :: y)) h) (hi : i < 5) {c : zE} (hc : c = cellE b i e') : rX b h0 F sh (f, rc, lup Ls i (x ++ (q, e') :: y)) (hset h q c) := by
  have hk : ((f, rc, lup Ls i (x ++ (q, e) :: y)).2.2 i)[x.length]? = some (q, e) := by
    show (lup Ls i (x ++ (q, e) :: y) i)[x.length]? = _
    rw [lup_s]
    exact pp_at
  have t := a.elem hi hk hc
  have t2 : rX b h0 F sh (f, rc, lup (lup Ls i (x ++ (q, e) :: y)) i ((lup Ls i (x ++ (q, e) :: y) i).set x.length (q, e'))) (hset h q c) := t
  rw [lup_lup, lup_s, pp_set] at t2
  exact t2
theorem adr_er {ps : ELs} {j : Nat} : adr (ps.eraseIdx j) = (adr ps).eraseIdx j := by
  unfold adr
  refine List.ext_getElem? fun k => ?_
  rw [List.getElem?_map, List.getElem?_eraseIdx, List.getElem?_eraseIdx]
  split <;> rw [List.getElem?_map]
theorem adr_len {ps : ELs} : (adr ps).length = ps.length := List.length_map _
theorem lCls {i : Nat} (hi : i < 6) : ∃ r : vw_C, zCl[clsE i]? = some r ∧ Cond.castable r.1 "java/lang/Object" ∈ lw_tbl := by
  have : i = 0 ∨ i = 1 ∨ i = 2 ∨ i = 3 ∨ i = 4 ∨ i = 5 := by omega
  rcases this with rfl | rfl | rfl | rfl | rfl | rfl
  · exact ⟨_, rfl, q2701⟩
  · exact ⟨_, rfl, q2714⟩
  · exact ⟨_, rfl, q2702⟩
  · exact ⟨_, rfl, q2703⟩
  · exact ⟨_, rfl, q2715⟩
  · exact ⟨_, rfl, q2720⟩
/-- size -/
theorem z_rsize (X : zX C cc own nL ret d mc ms post) {idx cnt i : Nat} (hq : Cond.methodLink own idx ⟨"java/util/List", "size", "()I"⟩ ∈ lw_all) (a : rX (zg C).2.2 h0 F sh (f, rc, Ls) h1) (hi : i < 6) (hd : decode cc pc = .ok (.invokeinterface idx cnt, 5)) (hn : pc + 5 = pc') (hdd : 2 ≤ d) (hcat : (st.map fun v => v.category).sum ≤ 8) (hkm : k ≤ mc) (hnm : n ≤ ms)
    (kk : ZP C nL (zAt h1) k n L pc' (vI ((Ls i).length : Int) :: st)) : ZP C nL (zAt h1) k n L pc (vR (sh.2.1 i) :: st) := by
  have hal : alA (zg C).2.2 h1 (sh.2.1 i) (sh.2.2 i) (adr (Ls i)) := a.1.2.1 i hi
  obtain ⟨m, hm⟩ := hal.1
  refine z_callF1 (mcy := 0) (msy := 0) (N := 0) X hq q507 q509 q117 q511 q506 q505 q510 q508 q302 (by decide +kernel) (by decide) hd hn (show 1 + 1 ≤ d from hdd) hkm hnm (vs := []) rfl rfl hcat rfl ⟨_, hm⟩ (c_J2_size _ _ _ _ _ _ hal) fun v h2 hp => ?_
  rw [hp.1, hp.2, adr_len]
  exact kk
/-- get -/
theorem z_rget (X : zX C cc own nL ret d mc ms post) {idx cnt i : Nat} (hq : Cond.methodLink own idx ⟨"java/util/List", "get", "(I)Ljava/lang/Object;"⟩ ∈ lw_all) (a : rX (zg C).2.2 h0 F sh (f, rc, Ls) h1) (hi : i < 6) {j : Int} {q : Nat} {e : El} (hk : (Ls i)[j.toNat]? = some (q, e)) (h0j : 0 ≤ j) (hd : decode cc pc = .ok (.invokeinterface idx cnt, 5)) (hn : pc + 5 = pc') (hdd : 5 ≤ d) (hcat : (st.map fun v => v.category).sum ≤ 8) (hkm : k ≤ mc) (hnm : n ≤ ms) (hl : (Ls i).length ≤ 1000)
    (kk : ZP C nL (zAt h1) k n L pc' (vR q :: st)) : ZP C nL (zAt h1) k n L pc (vI j :: vR (sh.2.1 i) :: st) := by
  have hal : alA (zg C).2.2 h1 (sh.2.1 i) (sh.2.2 i) (adr (Ls i)) := a.1.2.1 i hi
  obtain ⟨m, hm⟩ := hal.1
  refine z_callF1 (mcy := 0) (msy := 0) (N := 1) X hq q552 q554 q117 q556 q551 q550 q555 q553 q302 (by decide +kernel) (by decide) hd hn (show 4 + 1 ≤ d from hdd) hkm hnm (vs := [vI j]) rfl rfl hcat rfl ⟨_, hm⟩ (c_J2_get _ _ _ _ _ _ j q hal h0j (adr_at hk) (by rw [adr_len]; exact hl)) fun v h2 hp => ?_
  rw [hp.1, hp.2]
  exact kk
theorem rX.fresh {h : GH} (a : rX b h0 F sh (f, rc, Ls) h) {q i : Nat} (hq : h q = none) (hi : i < 6) : q ∉ adr (Ls i) := fun hm => by
  obtain ⟨⟨q', e⟩, h1, h2⟩ := List.mem_map.mp hm
  have h2 : q' = q := h2
  subst h2
  have := a.1.2.2.1 i hi q' e h1
  rw [hq] at this
  cases this
/-- add at the end -/
theorem z_radd (X : zX C cc own nL ret d mc ms post) {idx cnt i q : Nat} {e : El} (hq : Cond.methodLink own idx ⟨"java/util/List", "add", "(Ljava/lang/Object;)Z"⟩ ∈ lw_all) (a : rX (zg C).2.2 h0 F sh (f, rc, Ls) h1) (hi : i < 6) (hc : h1 q = some (cellE (zg C).2.2 i e)) (hnew : i < 5 → q ∉ adr (Ls i)) (hown : i < 5 → F q ∨ h0 q = none) (hl : (Ls i).length ≤ 40) (hd : decode cc pc = .ok (.invokeinterface idx cnt, 5)) (hn : pc + 5 = pc') (hdd : 10 ≤ d) (hcat : (st.map fun v => v.category).sum ≤ 8) (hkm : k + 1 ≤ mc) (hnm : n + 60 ≤ ms)
    (kk : ∀ h2 ar', rX (zg C).2.2 h0 F (sh.1, sh.2.1, aup sh.2.2 i ar') (f, rc, lup Ls i (Ls i ++ [(q, e)])) h2 → hF h1 (fpL (sh.2.1 i) (sh.2.2 i)) h2 → ZP C nL (zAt h2) (k + 1) (n + 60) L pc' (vI 1 :: st)) : ZP C nL (zAt h1) k n L pc (vR q :: vR (sh.2.1 i) :: st) := by
  have hal : alA (zg C).2.2 h1 (sh.2.1 i) (sh.2.2 i) (adr (Ls i)) := a.1.2.1 i hi
  obtain ⟨m, hm⟩ := hal.1
  obtain ⟨r, hr1, hr2⟩ := lCls hi
  obtain ⟨fs, ef⟩ := cellE_cls (b := (zg C).2.2) (i := i) (e := e)
  refine z_callF1 (mcy := 1) (msy := 60) (N := 1) X hq q303 q305 q117 q307 q301 q300 q306 q304 q302 (by decide +kernel) (by decide) hd hn (show 9 + 1 ≤ d from hdd) hkm hnm (vs := [vR q]) rfl rfl hcat rfl ⟨_, hm⟩ (c_J2_add _ _ _ _ q _ _ fs (clsE i) r hr1 hr2 (by rw [hc, ef]) hal (by rw [adr_len]; exact hl) (fun x hx => ?_) clsE_6.2) fun v h2 hp => ?_
  · obtain ⟨⟨q', e'⟩, g1, g2⟩ := List.mem_map.mp hx
    have g2 : q' = x := g2
    subst g2
    obtain ⟨fs', ef'⟩ := cellE_cls (b := (zg C).2.2) (i := i) (e := e')
    exact ⟨fs', by rw [← ef']; exact a.1.2.2.1 i hi q' e' g1⟩
  · obtain ⟨ev, ar', g1, g2, g3⟩ := hp
    subst ev
    refine kk h2 ar' (a.list hi (ps' := Ls i ++ [(q, e)]) (by rw [show adr (Ls i ++ [(q, e)]) = adr (Ls i) ++ [q] from List.map_append]; exact g1) g2 g3 (fun x ex hx => ?_) (fun h5 => ?_) (fun h5 x ex hx => ?_)) g2
    · rcases List.mem_append.mp hx with t | t
      · exact a.1.2.2.1 i hi x ex t
      · cases List.mem_singleton.mp t
        exact hc
    · rw [show adr (Ls i ++ [(q, e)]) = adr (Ls i) ++ [q] from List.map_append]
      exact List.nodup_append.mpr ⟨a.1.2.2.2.2.2.1 i h5, List.nodup_cons.mpr ⟨List.not_mem_nil, List.nodup_nil⟩, fun x hx y hy e => hnew h5 (by rw [← List.mem_singleton.mp hy, ← e]; exact hx)⟩
    · rcases List.mem_append.mp hx with t | t
      · exact a.2.2 x (Or.inr (Or.inr ⟨i, h5, ex, t⟩))
      · cases List.mem_singleton.mp t
        exact hown h5
/-- remove at a place -/
theorem z_rrem (X : zX C cc own nL ret d mc ms post) {idx cnt i : Nat} (hq : Cond.methodLink own idx ⟨"java/util/List", "remove", "(I)Ljava/lang/Object;"⟩ ∈ lw_all) (a : rX (zg C).2.2 h0 F sh (f, rc, Ls) h1) (hi : i < 6) {j : Int} {q : Nat} {e : El} (hk : (Ls i)[j.toNat]? = some (q, e)) (h0j : 0 ≤ j) (hd : decode cc pc = .ok (.invokeinterface idx cnt, 5)) (hn : pc + 5 = pc') (hdd : 5 ≤ d) (hcat : (st.map fun v => v.category).sum ≤ 8) (hkm : k ≤ mc) (hnm : n ≤ ms)
    (kk : ∀ h2, rX (zg C).2.2 h0 F sh (f, rc, lup Ls i ((Ls i).eraseIdx j.toNat)) h2 → hF h1 (fpL (sh.2.1 i) (sh.2.2 i)) h2 → (∃ a1 cap g, sh.2.2 i = some a1 ∧ h2 a1 = some (zAq 14 cap g) ∧ ((Ls i).eraseIdx j.toNat).length < cap) → ZP C nL (zAt h2) k n L pc' (vR q :: st)) : ZP C nL (zAt h1) k n L pc (vI j :: vR (sh.2.1 i) :: st) := by
  have hal : alA (zg C).2.2 h1 (sh.2.1 i) (sh.2.2 i) (adr (Ls i)) := a.1.2.1 i hi
  obtain ⟨m, hm⟩ := hal.1
  obtain ⟨r, hr1, hr2⟩ := lCls hi
  have hk' := adr_at hk
  obtain ⟨a1, ha1⟩ : ∃ a1, sh.2.2 i = some a1 := by
    cases har : sh.2.2 i with
    | none => rw [hal.2.1 har] at hk'; simp at hk'
    | some x => exact ⟨x, rfl⟩
  have hal1 := hal
  rw [ha1] at hal1
  have ead : adr ((Ls i).eraseIdx j.toNat) = (adr (Ls i)).eraseIdx j.toNat := adr_er
  refine z_callF1 (mcy := 0) (msy := 0) (N := 1) X hq q736 q738 q117 q740 q735 q734 q739 q737 q302 (by decide +kernel) (by decide) hd hn (show 4 + 1 ≤ d from hdd) hkm hnm (vs := [vI j]) rfl rfl hcat rfl ⟨_, hm⟩ (c_J2_remove _ _ _ _ a1 _ j q (clsE i) r hr1 hr2 hal1 h0j hk' (fun x hx => ?_) clsE_6.2) fun v h2 hp => ?_
  · obtain ⟨⟨q', e'⟩, g1, g2⟩ := List.mem_map.mp hx
    have g2 : q' = x := g2
    subst g2
    obtain ⟨fs', ef'⟩ := cellE_cls (b := (zg C).2.2) (i := i) (e := e')
    exact ⟨fs', by rw [← ef']; exact a.1.2.2.1 i hi q' e' g1⟩
  · obtain ⟨ev, g1, ⟨cap, g, g2, g3⟩, g4⟩ := hp
    subst ev
    rw [← ead] at g1 g3
    rw [← ha1] at g4
    have t := a.list hi (ps' := (Ls i).eraseIdx j.toNat) (ar' := some a1) g1 g4 (fun x hx => Or.inl (ha1.trans hx)) (fun x ex hx => a.1.2.2.1 i hi x ex (List.mem_of_mem_eraseIdx hx)) (fun h5 => by rw [ead]; exact (a.1.2.2.2.2.2.1 i h5).sublist (List.eraseIdx_sublist _ _)) (fun h5 x ex hx => a.2.2 x (Or.inr (Or.inr ⟨i, h5, ex, List.mem_of_mem_eraseIdx hx⟩)))
    rw [← ha1, aup_self] at t
    exact kk h2 t g4 ⟨a1, cap, g, ha1, g2, by rw [adr_len] at g3; exact g3⟩
theorem adr_ins {ps : ELs} {j q : Nat} {e : El} : adr (ps.insertIdx j (q, e)) = (adr ps).insertIdx j q := by
  unfold adr
  refine List.ext_getElem? fun k => ?_
  rw [List.getElem?_map, List.getElem?_insertIdx, List.getElem?_insertIdx, List.length_map]
  split
  · rw [List.getElem?_map]
  · split
    · split <;> rfl
    · rw [List.getElem?_map]
/-- add at a place, where a cell is free -/
theorem z_rins (X : zX C cc own nL ret d mc ms post) {idx cnt i q : Nat} {e : El} {j : Int} (hq : Cond.methodLink own idx ⟨"java/util/List", "add", "(ILjava/lang/Object;)V"⟩ ∈ lw_all) (a : rX (zg C).2.2 h0 F sh (f, rc, Ls) h1) (hi : i < 6) (hc : h1 q = some (cellE (zg C).2.2 i e)) (hnew : i < 5 → q ∉ adr (Ls i)) (hown : i < 5 → F q ∨ h0 q = none) (hroom : ∃ a1 cap g, sh.2.2 i = some a1 ∧ h1 a1 = some (zAq 14 cap g) ∧ (Ls i).length < cap) (hj : 0 ≤ j ∧ j ≤ ((Ls i).length : Int)) (hl : (Ls i).length ≤ 40) (hd : decode cc pc = .ok (.invokeinterface idx cnt, 5)) (hn : pc + 5 = pc') (hdd : 5 ≤ d) (hcat : (st.map fun v => v.category).sum ≤ 8) (hkm : k ≤ mc) (hnm : n ≤ ms)
    (kk : ∀ h2, rX (zg C).2.2 h0 F sh (f, rc, lup Ls i ((Ls i).insertIdx j.toNat (q, e))) h2 → hF h1 (fpL (sh.2.1 i) (sh.2.2 i)) h2 → ZP C nL (zAt h2) k n L pc' st) : ZP C nL (zAt h1) k n L pc (vR q :: vI j :: vR (sh.2.1 i) :: st) := by
  have hal : alA (zg C).2.2 h1 (sh.2.1 i) (sh.2.2 i) (adr (Ls i)) := a.1.2.1 i hi
  obtain ⟨m, hm⟩ := hal.1
  obtain ⟨r, hr1, hr2⟩ := lCls hi
  obtain ⟨fs, ef⟩ := cellE_cls (b := (zg C).2.2) (i := i) (e := e)
  obtain ⟨a1, cap, gg, ha1, hr3, hr4⟩ := hroom
  have hal1 := hal
  rw [ha1] at hal1
  refine z_callF1 (mcy := 0) (msy := 0) (N := 2) X hq q1557 q1559 q117 q1561 q1556 q1555 q1560 q1558 q302 (by decide +kernel) (by decide) hd hn (show 4 + 1 ≤ d from hdd) hkm hnm (vs := [vI j, vR q]) rfl rfl hcat rfl ⟨_, hm⟩ (c_J2_add_3 _ _ _ _ a1 _ j q fs (clsE i) r hr1 hr2 (by rw [hc, ef]) hal1 ⟨cap, gg, hr3, by rw [adr_len]; exact hr4⟩ (by rw [adr_len]; exact hj) (by rw [adr_len]; exact hl) (fun x hx => ?_) clsE_6.2) fun v h2 hp => ?_
  · obtain ⟨⟨q', e'⟩, g1, g2⟩ := List.mem_map.mp hx
    have g2 : q' = x := g2
    subst g2
    obtain ⟨fs', ef'⟩ := cellE_cls (b := (zg C).2.2) (i := i) (e := e')
    exact ⟨fs', by rw [← ef']; exact a.1.2.2.1 i hi q' e' g1⟩
  · obtain ⟨ev, g1, g4⟩ := hp
    subst ev
    rw [← adr_ins (e := e)] at g1
    rw [← ha1] at g4
    have hmem : ∀ x ex, (x, ex) ∈ (Ls i).insertIdx j.toNat (q, e) → (x, ex) = (q, e) ∨ (x, ex) ∈ Ls i := fun x ex hx => (List.mem_insertIdx (by omega)).mp hx
    have t := a.list hi (ps' := (Ls i).insertIdx j.toNat (q, e)) (ar' := some a1) g1 g4 (fun x hx => Or.inl (ha1.trans hx)) (fun x ex hx => (hmem x ex hx).elim (fun t => by cases t; exact hc) (a.1.2.2.1 i hi x ex)) (fun h5 => by
      rw [adr_ins]
      have hp : List.Perm ((adr (Ls i)).insertIdx j.toNat q) (q :: adr (Ls i)) := List.perm_insertIdx _ _ (by rw [adr_len]; omega)
      exact hp.nodup_iff.mpr (List.nodup_cons.mpr ⟨hnew h5, a.1.2.2.2.2.2.1 i h5⟩)) (fun h5 x ex hx => (hmem x ex hx).elim (fun t => by cases t; exact hown h5) (fun t => a.2.2 x (Or.inr (Or.inr ⟨i, h5, ex, t⟩))))
    rw [← ha1, aup_self] at t
    exact kk h2 t g4
end ZRL

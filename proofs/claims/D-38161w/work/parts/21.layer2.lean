/-! more calls: interfaces, nest mates, inherited; the natives -/
section LAY2
variable {E : EE} {l : Launch} {X : Fx} {cc : ByteArray} {own : String} {nL fr mc ms rl : Nat} {cs : List va_W} {kc ks pc : Nat} {lv : List (Nat × Value)} {rest st : List Value} {a : Nat} {post : Option Value → List va_W → Prop}
theorem lw_Fi {own : String} {idx : Nat} {C : String} {x y : MethodName} {b : ByteArray} {L : Nat} {r : Option FieldType} (h1 : Cond.methodLink own idx x ∈ lw_all) (h2 : Cond.selects C x y ∈ lw_all) (h3 : Cond.instanceMethod y ∈ lw_all) (h4 : Cond.initialized y.cls ∈ lw_all) (h5 : Cond.code y b L r ∈ lw_all) : GoodIn lw_all (va_wsF own idx C x y (ws_ y b L r)) := by
  refine lw_app ?_ (lw_meth h5)
  intro w hw
  simp only [List.mem_cons, List.not_mem_nil, or_false] at hw
  rcases hw with e | e | e | e
  · rw [e]; exact h1
  · rw [e]; exact h2
  · rw [e]; exact h3
  · rw [e]; exact h4
theorem lw_Ui {own : String} {idx : Nat} {C owner : String} {x y : MethodName} {b : ByteArray} {L : Nat} {r : Option FieldType} (h1 : Cond.methodLink own idx x ∈ lw_all) (h0 : Cond.sameMethod x.cls owner x.name x.desc ∈ lw_all) (h2 : Cond.selects C x y ∈ lw_all) (h3 : Cond.instanceMethod y ∈ lw_all) (h4 : Cond.initialized y.cls ∈ lw_all) (h5 : Cond.code y b L r ∈ lw_all) : GoodIn lw_all (va_wsU own idx C owner x y (ws_ y b L r)) := by
  refine lw_app ?_ (lw_meth h5)
  intro w hw
  simp only [List.mem_cons, List.not_mem_nil, or_false] at hw
  rcases hw with e | e | e | e | e
  · rw [e]; exact h1
  · rw [e]; exact h0
  · rw [e]; exact h2
  · rw [e]; exact h3
  · rw [e]; exact h4
/-- what the tables say of a method that is called through the interface method x of class C -/
def KF (C : String) (x y : MethodName) (code : ByteArray) (nL : Nat) (ret : Option FieldType) (n : Nat) : Prop := Cond.code y code nL ret ∈ lw_all ∧ Cond.instanceMethod y ∈ lw_all ∧ Cond.selects C x y ∈ lw_all ∧ Cond.initialized y.cls ∈ lw_all ∧ (C, x, y) ∈ xw_F ∧ (x.cls ≠ "java/lang/invoke/MethodHandle" ∧ x.cls ≠ "java/lang/invoke/VarHandle" ∧ (parseMethodDescriptor x.desc).map (fun d => d.parameters.length) = some n)
theorem g_callF (hX : Cx E X cc own nL fr mc ms rl) {x y : MethodName} {code : ByteArray} {nL1 n fr1 mc1 ms1 rl1 b ci N index count : Nat} {C : String} {ret : Option FieldType} {As rest st : List Value} {wc wr : List va_W} {post : Option Value → List va_W → Prop} {T : u_T} {ty : Nat → FieldType} {fs : List Value}
    (hk : KF C x y code nL1 ret n) (hM : Mt E l y code nL1 ret fr1 mc1 ms1 rl1 (.ref b :: As) wc post) (hw : Cond.methodLink own index x ∈ lw_all) (hf : Fc ci C T N ty) (hm : (b, ob ci fs) ∈ cs.flatten) (is : List Nat) (hp : pk is cs = some (wc, wr)) (hn : As.length = n) (hst : st = As.reverse ++ .ref b :: rest) (hc : (rest.map fun v => v.category).sum ≤ 8)
    (h1 : fr1 + 1 ≤ fr) (h2 : 8 + (nL1 + 11) + rl1 ≤ rl) (h3 : kc + mc1 ≤ mc) (h4 : ks + ms1 ≤ ms) (hdg : decode cc pc = .ok (.invokeinterface index count, 5))
    (kk : ∀ (v : Option Value) (w1 : List va_W), post v w1 → G E l X (w1 ++ wr) (kc + mc1) (ks + ms1) (pc + 5) lv (v.toList ++ rest)) : G E l X cs kc ks pc lv st := fun H locs ls hP hD hS hl => by
  have hR := hX.2.2.2.2.2.2.2.1
  obtain ⟨-, hpre⟩ := sp_sub hX (pk_flat hp) hP hD hS
  obtain ⟨q0, h0⟩ := List.mem_iff_getElem?.mp hm
  have hFw : va_Fw C x y (xs X) := hX.2.2.2.2.2.2.2.2.2.1.1.2.2.2.2.2.2.2 _ hk.2.2.2.2.1
  exact g_run hX (pk_flat hp) hP hD hS hl (va_runF (As := As) (rest := rest) (hX.2.2.2.2.2.2.2.2.1.1 ci _ hf.1).2 (cx_fix hX) (hM H.size) (va_cwF n hX.2.2.2.2.2.1 (lw_Fi hw hk.2.2.1 hk.2.1 hk.2.2.2.1 hk.1) rfl rfl rfl hFw hk.2.2.2.2.2 (by rw [hR]; exact ⟨h1, h2⟩))
    ⟨Wd.blind, va_recv hX.2.2.2.2.2.2.2.2.1 hP hf.1 h0, fun U hU hW => ⟨rfl, by rw [hU], hpre U hU hW⟩⟩ rfl hn (hl.1.trans hX.2.2.2.1) hst (cx_st hc) hdg (by rw [hR]; exact ⟨h3, h4⟩)) kk
theorem g_callVN (hX : Cx E X cc own nL fr mc ms rl) {y : MethodName} {code : ByteArray} {nL1 n fr1 mc1 ms1 rl1 b ci N index : Nat} {host : String} {ret : Option FieldType} {As rest st : List Value} {wc wr : List va_W} {post : Option Value → List va_W → Prop} {T : u_T} {ty : Nat → FieldType} {fs : List Value}
    (hk : KI y code nL1 ret n) (hM : Mt E l y code nL1 ret fr1 mc1 ms1 rl1 (.ref b :: As) wc post) (hw : Cond.methodLinkNest own index y host ∈ lw_tbl) (hf : Fc ci y.cls T N ty) (hm : (b, ob ci fs) ∈ cs.flatten) (is : List Nat) (hp : pk is cs = some (wc, wr)) (hn : As.length = n) (hst : st = As.reverse ++ .ref b :: rest) (hc : (rest.map fun v => v.category).sum ≤ 8)
    (h1 : fr1 + 1 ≤ fr) (h2 : 8 + (nL1 + 11) + rl1 ≤ rl) (h3 : kc + mc1 ≤ mc) (h4 : ks + ms1 ≤ ms) (hdg : decode cc pc = .ok (.invokevirtual index, 3))
    (kk : ∀ (v : Option Value) (w1 : List va_W), post v w1 → G E l X (w1 ++ wr) (kc + mc1) (ks + ms1) (pc + 3) lv (v.toList ++ rest)) : G E l X cs kc ks pc lv st := fun H locs ls hP hD hS hl => by
  have hR := hX.2.2.2.2.2.2.2.1
  obtain ⟨-, hpre⟩ := sp_sub hX (pk_flat hp) hP hD hS
  obtain ⟨q0, h0⟩ := List.mem_iff_getElem?.mp hm
  exact g_run hX (pk_flat hp) hP hD hS hl (va_runVN (As := As) (rest := rest) (cx_fix hX) (hM H.size) ⟨va_cnB n hX.2.2.2.2.2.1 (lw_meth hk.1) rfl rfl rfl (cx_nst hX hw rfl) (hX.2.2.2.2.2.1 _ hk.2.2.2.1) hk.2.2.2.2 (by rw [hR]; exact ⟨h1, h2⟩), hX.2.2.2.2.2.1 _ hk.2.1, hX.2.2.2.2.2.1 _ hk.2.2.1⟩
    ⟨Wd.blind, va_recv hX.2.2.2.2.2.2.2.2.1 hP hf.1 h0, fun U hU hW => ⟨rfl, by rw [hU], hpre U hU hW⟩⟩ rfl hn (hl.1.trans hX.2.2.2.1) hst (cx_st hc) hdg (by rw [hR]; exact ⟨h3, h4⟩)) kk
theorem g_callIN (hX : Cx E X cc own nL fr mc ms rl) {y : MethodName} {code : ByteArray} {nL1 n fr1 mc1 ms1 rl1 b index : Nat} {host : String} {As rest st : List Value} {wc wr : List va_W} {post : Option Value → List va_W → Prop}
    (hk : KC y code nL1 n) (hM : Mt E l y code nL1 none fr1 mc1 ms1 rl1 (.ref b :: As) wc post) (hw : Cond.methodLinkNest own index y host ∈ lw_tbl) (is : List Nat) (hp : pk is cs = some (wc, wr)) (hn : As.length = n) (hst : st = As.reverse ++ .ref b :: rest) (hc : (rest.map fun v => v.category).sum ≤ 8)
    (h1 : fr1 + 1 ≤ fr) (h2 : 8 + (nL1 + 11) + rl1 ≤ rl) (h3 : kc + mc1 ≤ mc) (h4 : ks + ms1 ≤ ms) (hdg : decode cc pc = .ok (.invokespecial index, 3))
    (kk : ∀ (v : Option Value) (w1 : List va_W), post v w1 → G E l X (w1 ++ wr) (kc + mc1) (ks + ms1) (pc + 3) lv (v.toList ++ rest)) : G E l X cs kc ks pc lv st := fun H locs ls hP hD hS hl => by
  have hR := hX.2.2.2.2.2.2.2.1
  obtain ⟨-, hpre⟩ := sp_sub hX (pk_flat hp) hP hD hS
  exact g_run hX (pk_flat hp) hP hD hS hl (va_runIN (As := As) (rest := rest) (cx_fix hX) (hM H.size) ⟨va_cnB n hX.2.2.2.2.2.1 (lw_meth hk.1) rfl rfl rfl (cx_nst hX hw rfl) (hX.2.2.2.2.2.1 _ hk.2.2.1) hk.2.2.2.2 (by rw [hR]; exact ⟨h1, h2⟩), hk.2.2.2.1, hX.2.2.2.2.2.1 _ hk.2.1⟩
    ⟨Wd.blind, fun U hU hW => ⟨rfl, by rw [hU], hpre U hU hW⟩⟩ rfl hn (hl.1.trans hX.2.2.2.1) hst (cx_st hc) hdg (by rw [hR]; exact ⟨h3, h4⟩)) kk
/-- an inherited method, of a receiver whose cell is known otherwise -/
theorem g_callU (hX : Cx E X cc own nL fr mc ms rl) {x y : MethodName} {code : ByteArray} {nL1 n fr1 mc1 ms1 rl1 b index : Nat} {C owner : String} {ret : Option FieldType} {As rest st : List Value} {wc wr : List va_W} {post : Option Value → List va_W → Prop}
    (hk1 : Cond.code y code nL1 ret ∈ lw_all) (hk2 : Cond.instanceMethod y ∈ lw_all) (hk3 : Cond.selects C x y ∈ lw_all) (hk4 : Cond.initialized y.cls ∈ lw_all) (hk5 : Cond.sameMethod x.cls owner x.name x.desc ∈ lw_all) (hyx : y = ⟨owner, x.name, x.desc⟩) (hd : owner ≠ "java/lang/invoke/MethodHandle" ∧ owner ≠ "java/lang/invoke/VarHandle" ∧ (parseMethodDescriptor x.desc).map (fun d => d.parameters.length) = some n)
    (hM : Mt E l y code nL1 ret fr1 mc1 ms1 rl1 (.ref b :: As) wc post) (hw : Cond.methodLink own index x ∈ lw_all) (hm : ∀ (H : Heap) (locs : List Loc), va_P E.1 Cl cs.flatten H → va_S (xA X) (xs X).heap H locs → ∃ cell : Cell, H[b]? = some cell ∧ cell.vm.isStatics = false ∧ (xs X).vm.findClass C = some cell.cls) (is : List Nat) (hp : pk is cs = some (wc, wr)) (hn : As.length = n) (hst : st = As.reverse ++ .ref b :: rest) (hc : (rest.map fun v => v.category).sum ≤ 8)
    (h1 : fr1 + 1 ≤ fr) (h2 : 8 + (nL1 + 11) + rl1 ≤ rl) (h3 : kc + mc1 ≤ mc) (h4 : ks + ms1 ≤ ms) (hdg : decode cc pc = .ok (.invokevirtual index, 3))
    (kk : ∀ (v : Option Value) (w1 : List va_W), post v w1 → G E l X (w1 ++ wr) (kc + mc1) (ks + ms1) (pc + 3) lv (v.toList ++ rest)) : G E l X cs kc ks pc lv st := fun H locs ls hP hD hS hl => by
  have hR := hX.2.2.2.2.2.2.2.1
  obtain ⟨-, hpre⟩ := sp_sub hX (pk_flat hp) hP hD hS
  exact g_run hX (pk_flat hp) hP hD hS hl (va_runU (As := As) (rest := rest) (cx_fix hX) (hM H.size) (va_cwU n hX.2.2.2.2.2.1 (lw_Ui hw hk5 hk3 hk2 hk4 hk1) rfl rfl rfl hyx hd (by rw [hR]; exact ⟨h1, h2⟩))
    ⟨Wd.blind, hm H locs hP hS, fun U hU hW => ⟨rfl, by rw [hU], hpre U hU hW⟩⟩ rfl hn (hl.1.trans hX.2.2.2.1) hst (cx_st hc) hdg (by rw [hR]; exact ⟨h3, h4⟩)) kk
theorem g_mmax (hX : Cx E X cc own nL fr mc ms rl) {index : Nat} (hw : Cond.methodLink own index Lib.Math.max.name ∈ lw_all) (h1 : 1 ≤ fr) (h2 : (rest.map fun v => v.category).sum + 13 ≤ rl) (h3 : kc ≤ mc) (h4 : ks ≤ ms) (hs : Cond.static Lib.Math.max.name ∈ lw_all) (hi : Cond.initialized "java/lang/Math" ∈ lw_all) (hc : Cond.code Lib.Math.max.name Lib.Math.max.code 2 (some .int) ∈ lw_all) {x y : Int32} (hdg : decode cc pc = .ok (.invokestatic index, 3))
    (kk : G E l X cs kc ks (pc + 3) lv (.int (if x < y then y else x) :: rest)) : G E l X cs kc ks pc lv (.int y :: .int x :: rest) := fun H locs ls hP hD hS hl => by
  have hR := hX.2.2.2.2.2.2.2.1
  have hA := hX.2.2.2.2.2.1
  exact va_mmax hX.1 hX.2.1 (hX.2.2.1.trans (hX.2.2.2.1.symm.trans hl.1.symm)) hX.2.2.2.2.1 (hA _ hw) (hA _ hs) (hA _ hi) (hA _ hc) (by rw [hR]; exact h1) (by rw [hR]; exact h2) (by rw [hR]; exact h3) (by rw [hR]; exact h4) hdg (kk H locs ls hP hD hS hl)
theorem g_mmin (hX : Cx E X cc own nL fr mc ms rl) {index : Nat} (hw : Cond.methodLink own index Lib.Math.min.name ∈ lw_all) (h1 : 1 ≤ fr) (h2 : (rest.map fun v => v.category).sum + 13 ≤ rl) (h3 : kc ≤ mc) (h4 : ks ≤ ms) (hs : Cond.static Lib.Math.min.name ∈ lw_all) (hi : Cond.initialized "java/lang/Math" ∈ lw_all) (hc : Cond.code Lib.Math.min.name Lib.Math.min.code 2 (some .int) ∈ lw_all) {x y : Int32} (hdg : decode cc pc = .ok (.invokestatic index, 3))
    (kk : G E l X cs kc ks (pc + 3) lv (.int (if y < x then y else x) :: rest)) : G E l X cs kc ks pc lv (.int y :: .int x :: rest) := fun H locs ls hP hD hS hl => by
  have hR := hX.2.2.2.2.2.2.2.1
  have hA := hX.2.2.2.2.2.1
  exact va_mmin hX.1 hX.2.1 (hX.2.2.1.trans (hX.2.2.2.1.symm.trans hl.1.symm)) hX.2.2.2.2.1 (hA _ hw) (hA _ hs) (hA _ hi) (hA _ hc) (by rw [hR]; exact h1) (by rw [hR]; exact h2) (by rw [hR]; exact h3) (by rw [hR]; exact h4) hdg (kk H locs ls hP hD hS hl)
/-- System.arraycopy of ints, between two arrays -/
theorem g_copyi (hX : Cx E X cc own nL fr mc ms rl) {index : Nat} (hw : Cond.methodLink own index arraycopyName ∈ lw_all) (hw1 : Cond.native arraycopyName ∈ lw_all) (hw2 : Cond.static arraycopyName ∈ lw_all) (hw3 : Cond.initialized "java/lang/System" ∈ lw_all) {a0 n0 n1 : Nat} {f g g1 : Nat → Int32} {cs1 : List va_W} (hm0 : (a0, iA (aC E 0) n0 f) ∈ cs.flatten) (i : Nat) (hm : cs[i]? = some [(a, iA (aC E 0) n1 g)])
    {sp dp n : Int32} (h1 : ¬ sp < 0) (h2 : ¬ dp < 0) (h3 : ¬ n < 0) (h4 : sp.toNatClampNeg + n.toNatClampNeg ≤ n0) (h5 : dp.toNatClampNeg + n.toNatClampNeg ≤ n1) (hg : va_cpy f g sp.toNatClampNeg dp.toNatClampNeg n.toNatClampNeg = g1) (hcs : cs.set i [(a, iA (aC E 0) n1 g1)] = cs1) (hfr : 1 ≤ fr) (hlo : (rest.map fun v => v.category).sum + (nativeFrameWords "java/lang/System" "arraycopy" 5 + 11) ≤ rl) (hdg : decode cc pc = .ok (.invokestatic index, 3))
    (kk : G E l X cs1 kc ks (pc + 3) lv rest) : G E l X cs kc ks pc lv (.int n :: .int dp :: .ref a :: .int sp :: .ref a0 :: rest) := fun H locs ls hP hD hS hl => by
  have hR := hX.2.2.2.2.2.2.2.1
  have hA := hX.2.2.2.2.2.1
  obtain ⟨q0, e0⟩ := List.mem_iff_getElem?.mp hm0
  obtain ⟨q1, e1, e2⟩ := sp_set cs i _ hm
  subst hcs; subst hg
  refine va_copyi hX.1 hX.2.1 (hX.2.2.1.trans (hX.2.2.2.1.symm.trans hl.1.symm)) hX.2.2.2.2.1 (hA _ hw) (hA _ hw1) (hA _ hw2) (hA _ hw3) hX.2.2.2.2.2.2.2.2.1 hP hD hS q0 q1 0 0 e0 e1 rfl rfl rfl h1 h2 h3 h4 h5 (fun _ _ => rfl) (by rw [hR]; exact hfr) (by rw [hR]; exact hlo) hdg (fun H1 locs1 hP1 hD1 hS1 => ?_)
  rw [e2] at hP1 hD1
  exact kk H1 locs1 ls hP1 hD1 hS1 hl
/-- and of references, into an array of Objects -/
theorem g_copyq (hX : Cx E X cc own nL fr mc ms rl) {index : Nat} (hw : Cond.methodLink own index arraycopyName ∈ lw_all) (hw1 : Cond.native arraycopyName ∈ lw_all) (hw2 : Cond.static arraycopyName ∈ lw_all) (hw3 : Cond.initialized "java/lang/System" ∈ lw_all) {a0 n0 n1 : Nat} {f g g1 : Nat → Option Nat} {cs1 : List va_W} (hm0 : (a0, qA (aC E 2) n0 f) ∈ cs.flatten) (i : Nat) (hm : cs[i]? = some [(a, qA (aC E 2) n1 g)])
    {sp dp n : Int32} (h1 : ¬ sp < 0) (h2 : ¬ dp < 0) (h3 : ¬ n < 0) (h4 : sp.toNatClampNeg + n.toNatClampNeg ≤ n0) (h5 : dp.toNatClampNeg + n.toNatClampNeg ≤ n1) (hel : ∀ (H : Heap) (locs : List Loc), va_P E.1 Cl cs.flatten H → va_S (xA X) (xs X).heap H locs → ∀ i : Nat, i < n.toNatClampNeg → ∀ y : Nat, f (sp.toNatClampNeg + i) = some y → va_Any "java/lang/Object" (xs X) H y)
    (hg : va_cpy f g sp.toNatClampNeg dp.toNatClampNeg n.toNatClampNeg = g1) (hcs : cs.set i [(a, qA (aC E 2) n1 g1)] = cs1) (hfr : 1 ≤ fr) (hlo : (rest.map fun v => v.category).sum + (nativeFrameWords "java/lang/System" "arraycopy" 5 + 11) ≤ rl) (hdg : decode cc pc = .ok (.invokestatic index, 3))
    (kk : G E l X cs1 kc ks (pc + 3) lv rest) : G E l X cs kc ks pc lv (.int n :: .int dp :: .ref a :: .int sp :: .ref a0 :: rest) := fun H locs ls hP hD hS hl => by
  have hR := hX.2.2.2.2.2.2.2.1
  have hA := hX.2.2.2.2.2.1
  obtain ⟨q0, e0⟩ := List.mem_iff_getElem?.mp hm0
  obtain ⟨q1, e1, e2⟩ := sp_set cs i _ hm
  subst hcs; subst hg
  refine va_copyM (E0 := "java/lang/Object") (E1 := "java/lang/Object") hX.1 hX.2.1 (hX.2.2.1.trans (hX.2.2.2.1.symm.trans hl.1.symm)) hX.2.2.2.2.1 (hA _ hw) (hA _ hw1) (hA _ hw2) (hA _ hw3) hX.2.2.2.2.2.2.2.2.1 hP hD hS q0 q1 2 2 e0 e1 rfl rfl h1 h2 h3 h4 h5 (hel H locs hP hS) (by rw [hR]; exact hfr) (by rw [hR]; exact hlo) hdg (fun H1 locs1 hP1 hD1 hS1 => ?_)
  rw [e2] at hP1 hD1
  exact kk H1 locs1 ls hP1 hD1 hS1 hl
/-- nothing, out of a static array that is empty -/
theorem g_copy0 (hX : Cx E X cc own nL fr mc ms rl) {index : Nat} (hw : Cond.methodLink own index arraycopyName ∈ lw_all) (hw1 : Cond.native arraycopyName ∈ lw_all) (hw2 : Cond.static arraycopyName ∈ lw_all) (hw3 : Cond.initialized "java/lang/System" ∈ lw_all) {a0 n1 : Nat} {fv : Nat → Value} {g g1 : Nat → Option Nat} {cs1 : List va_W} (hT : va_T (.object "java/lang/Object") a0 0 fv (xA X) (xs X) (xs X).heap) (i : Nat) (hm : cs[i]? = some [(a, qA (aC E 2) n1 g)])
    {sp dp n : Int32} (h1 : ¬ sp < 0) (h2 : ¬ dp < 0) (h3 : ¬ n < 0) (h4 : sp.toNatClampNeg + n.toNatClampNeg ≤ 0) (h5 : dp.toNatClampNeg + n.toNatClampNeg ≤ n1)
    (hg : va_cpy (fun _ => none) g sp.toNatClampNeg dp.toNatClampNeg n.toNatClampNeg = g1) (hcs : cs.set i [(a, qA (aC E 2) n1 g1)] = cs1) (hfr : 1 ≤ fr) (hlo : (rest.map fun v => v.category).sum + (nativeFrameWords "java/lang/System" "arraycopy" 5 + 11) ≤ rl) (hdg : decode cc pc = .ok (.invokestatic index, 3))
    (kk : G E l X cs1 kc ks (pc + 3) lv rest) : G E l X cs kc ks pc lv (.int n :: .int dp :: .ref a :: .int sp :: .ref a0 :: rest) := fun H locs ls hP hD hS hl => by
  have hR := hX.2.2.2.2.2.2.2.1
  have hA := hX.2.2.2.2.2.1
  obtain ⟨q1, e1, e2⟩ := sp_set cs i _ hm
  subst hcs; subst hg
  refine va_copyg (E0 := "java/lang/Object") (E1 := "java/lang/Object") hX.1 hX.2.1 (hX.2.2.1.trans (hX.2.2.2.1.symm.trans hl.1.symm)) hX.2.2.2.2.1 (hA _ hw) (hA _ hw1) (hA _ hw2) (hA _ hw3) hX.2.2.2.2.2.2.2.2.1 hP hD hS q1 2 hT e1 rfl h1 h2 h3 h4 h5 (by rw [hR]; exact hfr) (by rw [hR]; exact hlo) hdg (fun H1 locs1 hP1 hD1 hS1 => ?_)
  rw [e2] at hP1 hD1
  exact kk H1 locs1 ls hP1 hD1 hS1 hl
theorem g_tlen (hX : Cx E X cc own nL fr mc ms rl) {ty : FieldType} {N : Nat} {f : Nat → Value} (hT : va_T ty a N f (xA X) (xs X) (xs X).heap) {v : Int32} (hv : Int32.ofNat N = v) (hdg : decode cc pc = .ok (.arraylength, 1)) (kk : G E l X cs kc ks (pc + 1) lv (.int v :: rest)) : G E l X cs kc ks pc lv (.ref a :: rest) := fun H locs ls hP hD hS hl =>
  va_tlen hX.1 hX.2.1 hT hS hv hdg (kk H locs ls hP hD hS hl)
/-- a field of an enum's constant -/
theorem g_getE (hX : Cx E X cc own nL fr mc ms rl) {C d ref : String} {nm : List String} {F : List (String × String × String × List Int32)} {ad : Nat → Nat} {index i : Nat} (hE : va_En C d nm F ad (xA X) (xs X) (xs X).heap) (hi : i < nm.length) {q : String × String × String × List Int32} (hq : q ∈ F) (hw : Cond.fieldLink own index ref q.2.1 q.2.2.1 ∈ lw_all) (hsame : ref = q.1) (hdg : decode cc pc = .ok (.getfield index, 3))
    (kk : G E l X cs kc ks (pc + 3) lv (.int (q.2.2.2.getD i 0) :: rest)) : G E l X cs kc ks pc lv (.ref (ad i) :: rest) := fun H locs ls hP hD hS hl =>
  va_getE hX.1 hX.2.1 hE hi hS hX.2.2.2.2.1 hq (hX.2.2.2.2.2.1 _ hw) (fun x hx => by rw [hsame]; exact hx) hdg (kk H locs ls hP hD hS hl)
/-- a class constant; getClass() -/
theorem g_ldcM (hX : Cx E X cc own nL fr mc ms rl) {C : String} {index mi : Nat} (hw : Cond.classLink own index C ∈ lw_all) (hM : va_Mi C mi (xs X)) (hdg : decode cc pc = .ok (.ldc index, 2)) (kk : G E l X cs kc ks (pc + 2) lv (.ref mi :: rest)) : G E l X cs kc ks pc lv rest := fun H locs ls hP hD hS hl =>
  va_ldcM hX.1 hX.2.1 hX.2.2.2.2.1 (hX.2.2.2.2.2.1 _ hw) hM hdg (kk H locs ls hP hD hS hl)
theorem g_getC (hX : Cx E X cc own nL fr mc ms rl) {C : String} {index mi : Nat} (hw : Cond.methodLink own index ⟨"java/lang/Object", "getClass", "()Ljava/lang/Class;"⟩ ∈ lw_all) (hsel : Cond.selects C ⟨"java/lang/Object", "getClass", "()Ljava/lang/Class;"⟩ ⟨"java/lang/Object", "getClass", "()Ljava/lang/Class;"⟩ ∈ lw_all) (hin : Cond.instanceMethod ⟨"java/lang/Object", "getClass", "()Ljava/lang/Class;"⟩ ∈ lw_all) (hna : Cond.native ⟨"java/lang/Object", "getClass", "()Ljava/lang/Class;"⟩ ∈ lw_all) (hM : va_Mi C mi (xs X))
    (hr : ∀ (H : Heap) (locs : List Loc), va_P E.1 Cl cs.flatten H → va_S (xA X) (xs X).heap H locs → ∃ cell : Cell, H[a]? = some cell ∧ cell.vm.isStatics = false ∧ (xs X).vm.findClass C = some cell.cls) (h1 : 1 ≤ fr) (h2 : (rest.map fun v => v.category).sum + 14 ≤ rl) (hdg : decode cc pc = .ok (.invokevirtual index, 3))
    (kk : G E l X cs kc ks (pc + 3) lv (.ref mi :: rest)) : G E l X cs kc ks pc lv (.ref a :: rest) := fun H locs ls hP hD hS hl => by
  have hR := hX.2.2.2.2.2.2.2.1
  have hA := hX.2.2.2.2.2.1
  exact va_getC hX.1 hX.2.1 (hX.2.2.1.trans (hX.2.2.2.1.symm.trans hl.1.symm)) hX.2.2.2.2.1 (hA _ hw) (va_Dc.use hX.2.2.2.2.2.2.2.2.2.1.1.2.2.2.2.2.2.1) (hA _ hsel) (hA _ hin) (hA _ hna) hM (hr H locs hP hS) (by rw [hR]; exact h1) (by rw [hR]; exact h2) hdg (kk H locs ls hP hD hS hl)
theorem g_fl {cs1 : List va_W} (hp : cs.flatten = cs1.flatten) (k : G E l X cs1 kc ks pc lv st) : G E l X cs kc ks pc lv st := g_perm (hp ▸ List.Perm.refl _) k
/-- an inherited field, by the name of the heir -/
theorem g_getU (hX : Cx E X cc own nL fr mc ms rl) {ci : Nat} {C ref : String} {T : u_T} {N : Nat} {ty : Nat → FieldType} (hf : Fc ci C T N ty) (i : Nat) {fs : List Value} (hm : cs[i]? = some [(a, ob ci fs)]) (k : Nat) (hk : k < N) {index : Nat} (hw : Cond.fieldLink own index ref (T k).2.1 (T k).2.2.1 ∈ lw_all) (hsame : Cond.sameField ref (T k).1 (T k).2.1 (T k).2.2.1 ∈ lw_all) {v : Value} (hv : fs[k]? = some v) (hdg : decode cc pc = .ok (.getfield index, 3))
    (kk : G E l X cs kc ks (pc + 3) lv (v :: rest)) : G E l X cs kc ks pc lv (.ref a :: rest) := fun H locs ls hP hD hS hl => by
  obtain ⟨q0, h0⟩ := List.mem_iff_getElem?.mp (sp_mem hm)
  exact va_get hX.1 hX.2.1 hX.2.2.2.2.2.1 hf.2.1 hX.2.2.2.2.1 hX.2.2.2.2.2.2.2.2.1 hP q0 h0 hf.1 k hk (hX.2.2.2.2.2.1 _ hw) (fun x hx => u_same (hX.2.2.2.2.2.1 _ hsame) x hx) hv hdg (kk H locs ls hP hD hS hl)
theorem g_putU (hX : Cx E X cc own nL fr mc ms rl) {ci : Nat} {C ref : String} {T : u_T} {N : Nat} {ty : Nat → FieldType} (hf : Fc ci C T N ty) (i : Nat) {fs fs1 : List Value} {cs1 : List va_W} (hm : cs[i]? = some [(a, ob ci fs)]) (k : Nat) (hk : k < N) {index : Nat} (hw : Cond.fieldLink own index ref (T k).2.1 (T k).2.2.1 ∈ lw_all) (hsame : Cond.sameField ref (T k).1 (T k).2.1 (T k).2.2.1 ∈ lw_all) (hfin : (T k).2.2.2 = false) {v : Value} (hn : narrow (ty k) v = v) (hfit : fits (ty k) v = true) (hl : k < fs.length) (hfs : fs.set k v = fs1) (hcs : cs.set i [(a, ob ci fs1)] = cs1) (hdg : decode cc pc = .ok (.putfield index, 3))
    (kk : G E l X cs1 kc ks (pc + 3) lv rest) : G E l X cs kc ks pc lv (v :: .ref a :: rest) := fun H locs ls hP hD hS hl2 => by
  obtain ⟨q0, h0, h1⟩ := sp_set cs i _ hm
  subst hcs; subst hfs
  refine va_put hX.1 hX.2.1 hX.2.2.2.2.2.1 hf.2.1 ty hf.2.2.1 hf.2.2.2 hX.2.2.2.2.1 hX.2.2.2.2.2.2.2.2.1 hP hD hS q0 h0 hf.1 k hk (hX.2.2.2.2.2.1 _ hw) (fun x hx => u_same (hX.2.2.2.2.2.1 _ hsame) x hx) hfin (hf.2.2.1 k hk) hn hfit hl hdg (fun H1 locs1 hP1 hD1 hS1 => ?_)
  rw [h1] at hP1 hD1
  exact kk H1 locs1 ls hP1 hD1 hS1 hl2
/-- names, joins -/
theorem g_topi {x : Int32} (k : ∀ y : Int32, y = x → G E l X cs kc ks pc lv (.int y :: rest)) : G E l X cs kc ks pc lv (.int x :: rest) := k x rfl
theorem g_topl {x : Int64} (k : ∀ y : Int64, y = x → G E l X cs kc ks pc lv (.long y :: rest)) : G E l X cs kc ks pc lv (.long x :: rest) := k x rfl
theorem g_eqi {x : Int32} (y : Int32) (h : x = y) (k : G E l X cs kc ks pc lv (.int y :: rest)) : G E l X cs kc ks pc lv (.int x :: rest) := h ▸ k
theorem g_eql {x : Int64} (y : Int64) (h : x = y) (k : G E l X cs kc ks pc lv (.long y :: rest)) : G E l X cs kc ks pc lv (.long x :: rest) := h ▸ k
/-- all roads from here come to pcJ with one more int on the stack -/
theorem g_val {v : Int32} {pcJ : Nat} {st1 : List Value} (h : (∀ w : Int32, w = v → G E l X cs kc ks pcJ lv (.int w :: st1)) → G E l X cs kc ks pc lv st) (k : G E l X cs kc ks pcJ lv (.int v :: st1)) : G E l X cs kc ks pc lv st := h (fun w e => e ▸ k)
/-- all roads from here come to pcJ with the cells csJ -/
theorem g_join {csJ : List va_W} {pcJ kc1 ks1 : Nat} {lv1 : List (Nat × Value)} {st1 : List Value} (h : G E l X csJ kc1 ks1 pcJ lv1 st1 → G E l X cs kc ks pc lv st) (k : G E l X csJ kc1 ks1 pcJ lv1 st1) : G E l X cs kc ks pc lv st := h k
theorem g_acmp_eqr (hX : Cx E X cc own nL fr mc ms rl) {x y : Nat} {off : Int} {tgt : Nat} (hdg : decode cc pc = .ok (.if_acmp .eq off, 3)) (ht : (pc : Int) + off = (tgt : Int)) (kt : x = y → G E l X cs kc ks tgt lv rest) (kf : ¬ x = y → G E l X cs kc ks (pc + 3) lv rest) : G E l X cs kc ks pc lv (.ref y :: .ref x :: rest) :=
  g_acmp_eq hX (rx := some x) (ry := some y) hdg ht (fun z => kt (Option.some.inj z)) (fun z => kf (fun q => z (by rw [q])))
theorem g_acmp_ner (hX : Cx E X cc own nL fr mc ms rl) {x y : Nat} {off : Int} {tgt : Nat} (hdg : decode cc pc = .ok (.if_acmp .ne off, 3)) (ht : (pc : Int) + off = (tgt : Int)) (kt : ¬ x = y → G E l X cs kc ks tgt lv rest) (kf : x = y → G E l X cs kc ks (pc + 3) lv rest) : G E l X cs kc ks pc lv (.ref y :: .ref x :: rest) :=
  g_acmp_ne hX (rx := some x) (ry := some y) hdg ht (fun z => kt (fun q => z (by rw [q]))) (fun z => kf (Option.some.inj z))
end LAY2
/-- booleans as ints -/
def bI (b : Bool) : Int32 := if b then 1 else 0
theorem bI_n (b : Bool) : narrow .boolean (.int (bI b)) = .int (bI b) := by cases b <;> rfl
theorem bI_f (b : Bool) : fits .boolean (.int (bI b)) = true := by cases b <;> rfl
theorem bI_0 {b : Bool} : bI b = 0 ↔ b = false := by cases b <;> simp [bI]
theorem bI_1 {b : Bool} : bI b = 1 ↔ b = true := by cases b <;> simp [bI]
theorem bI_if {c : Prop} [Decidable c] : (if c then (1 : Int32) else 0) = bI (decide c) := by unfold bI; by_cases h : c <;> simp [h]
theorem bI_fi {c : Prop} [Decidable c] : (if c then (0 : Int32) else 1) = bI (decide (¬ c)) := by unfold bI; by_cases h : c <;> simp [h]

/-! helpers of the walker -/
theorem q_oi1 : Cond.instanceMethod Lib.objectInit ∈ lw_all := q118
theorem q_oi2 : Cond.code Lib.objectInit ⟨#[0xb1]⟩ 1 none ∈ lw_all := q119
theorem q_m1max : Cond.static Lib.Math.max.name ∈ lw_all := q242
theorem q_m3max : Cond.code Lib.Math.max.name Lib.Math.max.code 2 (some .int) ∈ lw_all := q243
theorem q_m1min : Cond.static Lib.Math.min.name ∈ lw_all := q233
theorem q_m3min : Cond.code Lib.Math.min.name Lib.Math.min.code 2 (some .int) ∈ lw_all := q234
theorem q_m2 : Cond.initialized "java/lang/Math" ∈ lw_all := q87
theorem q_ac1 : Cond.native arraycopyName ∈ lw_all := q424
theorem q_ac2 : Cond.static arraycopyName ∈ lw_all := q423
theorem q_ac3 : Cond.initialized "java/lang/System" ∈ lw_all := q89
theorem z10 {c : Prop} [Decidable c] : (if c then (1 : Int32) else 0) = 0 ↔ ¬ c := by by_cases h : c <;> simp [h]
theorem z01 {c : Prop} [Decidable c] : (if c then (0 : Int32) else 1) = 0 ↔ c := by by_cases h : c <;> simp [h]
theorem z10n {c : Prop} [Decidable c] : ¬ (if c then (1 : Int32) else 0) = 0 ↔ c := by by_cases h : c <;> simp [h]
theorem z01n {c : Prop} [Decidable c] : ¬ (if c then (0 : Int32) else 1) = 0 ↔ ¬ c := by by_cases h : c <;> simp [h]
section LAY3
variable {E : EE} {l : Launch} {X : Fx} {cs : List va_W} {kc ks pc : Nat} {lv : List (Nat × Value)} {st : List Value}
theorem g_lv1 {lv1 : List (Nat × Value)} (hp : lv = lv1) (k : G E l X cs kc ks pc lv1 st) : G E l X cs kc ks pc lv st := hp ▸ k
theorem g_nrm {cs1 : List va_W} {st1 : List Value} (h1 : cs = cs1) (h2 : st = st1) (k : G E l X cs1 kc ks pc lv st1) : G E l X cs kc ks pc lv st := by subst h1; subst h2; exact k
theorem g_drop {wc cs1 : List va_W} (is : List Nat) (hp : pk is cs = some (wc, cs1)) (k : G E l X cs1 kc ks pc lv st) : G E l X cs kc ks pc lv st := g_pk is hp fun H locs ls hP hD hS hl => by
  rw [List.flatten_append] at hP hD
  obtain ⟨d1, d2⟩ := sp_Diff.mp hD
  exact k H locs ls (sp_P.mpr fun q hq => sp_P.mp hP q (List.mem_append_right _ hq)) (sp_Diff.mpr ⟨(List.pairwise_append.mp d1).2.1, fun q hq => d2 q (List.mem_append_right _ hq)⟩) hS hl
end LAY3
theorem cx_gs {E : EE} {X : Fx} {cc : ByteArray} {own : String} {nL fr mc ms rl : Nat} (hX : Cx E X cc own nL fr mc ms rl) : Gs E (xA X) (xs X) (xs X).heap := hX.2.2.2.2.2.2.2.2.2.1.2
theorem nz10 (c : Prop) [Decidable c] : narrow .boolean (.int (if c then 1 else 0)) = .int (if c then 1 else 0) := by by_cases h : c <;> simp [h] <;> rfl
theorem nz01 (c : Prop) [Decidable c] : narrow .boolean (.int (if c then 0 else 1)) = .int (if c then 0 else 1) := by by_cases h : c <;> simp [h] <;> rfl
theorem qa_class {E : EE} {X : Fx} {cc : ByteArray} {own : String} {nL fr mc ms rl : Nat} (hX : Cx E X cc own nL fr mc ms rl) {ws : va_W} {H : Heap} {arr n : Nat} {f : Nat → Option Nat} (hP : va_P E.1 Cl ws H) (hm : (arr, qA (aC E 2) n f) ∈ ws) : ∃ cell : Cell, H[arr]? = some cell ∧ cell.vm.isStatics = false ∧ (xs X).vm.findClass "[Ljava/lang/Object;" = some cell.cls :=
  ⟨_, sp_P.mp hP _ hm, rfl, va_nmO (hX.2.2.2.2.2.2.2.2.1.2 2 (aC E 2, .object "java/lang/Object") rfl).2 rfl⟩
theorem cx_O {X : Fx} {C : String} {t : Nat} {H : Heap} {locs : List Loc} (h : va_O C t (xA X) (xs X) (xs X).heap) (hS : va_S (xA X) (xs X).heap H locs) : ∃ cell : Cell, H[t]? = some cell ∧ cell.vm.isStatics = false ∧ (xs X).vm.findClass C = some cell.cls := by
  obtain ⟨cell, g1, g2, g3, g4⟩ := h
  exact ⟨cell, (hS.2.1 _ (Array.getElem?_eq_some_iff.mp g1).1 g4).trans g1, g2, g3⟩
theorem al_pos {n : Nat} (h : 1 ≤ n) (hn : n < 2 ^ 31) : (0 : Int32) < nI n := nI_lt (a := 0) h hn
theorem cx_T0 {E : EE} {X : Fx} {cc : ByteArray} {own : String} {nL fr mc ms rl : Nat} (hX : Cx E X cc own nL fr mc ms rl) {arr : Nat} (h : arr = aX E 0 ∨ arr = aX E 1) : va_T (.object "java/lang/Object") arr 0 (fun _ => .null) (xA X) (xs X) (xs X).heap := by
  rcases h with rfl | rfl
  · exact (cx_gs hX).2.2.2.2.2.2.2.1
  · exact (cx_gs hX).2.2.2.2.2.2.2.2.1
theorem cx_O0 {E : EE} {X : Fx} {cc : ByteArray} {own : String} {nL fr mc ms rl : Nat} (hX : Cx E X cc own nL fr mc ms rl) {arr : Nat} (h : arr = aX E 0 ∨ arr = aX E 1) : va_O "[Ljava/lang/Object;" arr (xA X) (xs X) (xs X).heap := by
  rcases h with rfl | rfl
  · exact (cx_gs hX).2.2.2.2.2.2.2.2.2.2.2.2.2.2.2.2.2.1
  · exact (cx_gs hX).2.2.2.2.2.2.2.2.2.2.2.2.2.2.2.2.2.2
theorem cx_X01 {E : EE} {X : Fx} {cc : ByteArray} {own : String} {nL fr mc ms rl : Nat} (hX : Cx E X cc own nL fr mc ms rl) : aX E 0 ≠ aX E 1 := (cx_gs hX).2.2.2.2.2.2.2.2.2.2.2.2.2.2.2.2.1
theorem cx_M4 {E : EE} {X : Fx} {cc : ByteArray} {own : String} {nL fr mc ms rl : Nat} (hX : Cx E X cc own nL fr mc ms rl) : va_Mi "[Ljava/lang/Object;" (aX E 4) (xs X) := (cx_gs hX).2.2.2.2.2.2.2.2.2.2.2.2.2.2.1
theorem cx_M5 {E : EE} {X : Fx} {cc : ByteArray} {own : String} {nL fr mc ms rl : Nat} (hX : Cx E X cc own nL fr mc ms rl) : va_Mi "java/util/ArrayList" (aX E 5) (xs X) := (cx_gs hX).2.2.2.2.2.2.2.2.2.2.2.2.2.2.2.1

/-! Kind.values(): the clone of a constant array -/
section CLN
variable {E : EE} {l : Launch} {X : Fx} {cc : ByteArray} {own : String} {nL fr mc ms rl : Nat} {cs : List va_W} {kc ks pc : Nat} {lv : List (Nat × Value)} {rest : List Value}
theorem kn_nm (hX : Cx E X cc own nL fr mc ms rl) : (xs X).vm.findClass "[LQuorumspire$Kind;" = some (aC E 6) := by
  have hK := hX.2.2.2.2.2.2.2.2.1
  obtain ⟨kA, comp, h1, h2, h3, h4⟩ := (hK.2 6 (aC E 6, .object "Quorumspire$Kind") rfl).2
  have e : "[" ++ (FieldType.object "Quorumspire$Kind").toString = "[LQuorumspire$Kind;" := by decide +kernel
  rw [← e]
  exact h4
theorem g_clone (hX : Cx E X cc own nL fr mc ms rl) {index : Nat} (hw : Cond.methodLink own index ⟨"[LQuorumspire$Kind;", "clone", "()Ljava/lang/Object;"⟩ ∈ lw_all) (hcl : Cond.castable "[LQuorumspire$Kind;" "java/lang/Cloneable" ∈ lw_tbl)
    (h1 : 1 ≤ fr) (h2 : (rest.map fun v => v.category).sum + 14 ≤ rl) (h3 : kc + 1 ≤ mc) (h4 : ks + 6 ≤ ms) (hdg : decode cc pc = .ok (.invokevirtual index, 3))
    (kk : ∀ q : Nat, G E l X ([(q, qA (aC E 6) 6 (fun i => some (aK E i)))] :: cs) (kc + 1) (ks + 6) (pc + 3) lv (.ref q :: rest)) : G E l X cs kc ks pc lv (.ref (aX E 2) :: rest) := fun H locs ls hP hD hS hl => by
  have hR := hX.2.2.2.2.2.2.2.1
  have hA := hX.2.2.2.2.2.1
  have hG := (cx_gs hX).2.2.2.2.2.2.2.2.2.2.2.2.2.1
  have hlt := hG.1.lt
  have hc0 : (xs X).heap[aX E 2]? = some (vp_cell (aC E 6) (6, .inr (.inr (.inr (.inr (fun i => some (aK E i))))))) := hG.1
  have hc1 : H[aX E 2]? = some (vp_cell (aC E 6) (6, .inr (.inr (.inr (.inr (fun i => some (aK E i))))))) := (hS.2.1 _ hlt hG.2).trans hc0
  let x2 : Nat × va_E := (aX E 2, qA (aC E 6) 6 (fun i => some (aK E i)))
  have hP1 : va_P E.1 Cl (x2 :: cs.flatten) H := sp_P.mpr fun q hq => by
    rcases List.mem_cons.mp hq with rfl | h
    · exact hc1
    · exact sp_P.mp hP q h
  obtain ⟨d1, d2⟩ := sp_Diff.mp hD
  have hD1 : va_D (fun q => xA X q ∨ q = aX E 2) (x2 :: cs.flatten) := sp_Diff.mpr ⟨List.pairwise_cons.mpr ⟨fun q hq he => hG.2 (by have := d2 q hq; rw [show q.1 = aX E 2 from he.symm] at this; exact this), d1⟩, fun q hq => by
    rcases List.mem_cons.mp hq with rfl | h
    · exact Or.inr rfl
    · exact Or.inl (d2 q h)⟩
  have hS1 : va_S (fun q => xA X q ∨ q = aX E 2) (xs X).heap H locs := ⟨hS.1, fun q h5 h6 => hS.2.1 q h5 (fun z => h6 (Or.inl z)), fun z hz => Or.inl (hS.2.2 z hz)⟩
  refine va_clone (ad := "[LQuorumspire$Kind;") (ty := .object "Quorumspire$Kind") hX.1 hX.2.1 (hX.2.2.1.trans (hX.2.2.2.1.symm.trans hl.1.symm)) hX.2.2.2.2.1 (hA _ hw) (hA _ q1325) (hA _ q416) (hA _ q417) (hA _ q1326) (cx_nst hX hcl rfl) hX.2.2.2.2.2.2.2.2.1 hP1 hD1 hS1 (fun q h => Or.inl (hX.2.2.2.2.2.2.2.2.2.2 q h)) 0 6 (x := (6, .inr (.inr (.inr (.inr (fun i => some (aK E i))))))) rfl rfl (kn_nm hX) (fun i v hv => ?_) (by rw [hR]; exact h1) (by rw [hR]; exact h2) (by rw [hR]; exact h3) (by rw [hR]; exact h4) hdg (fun q H1 hK1 hP2 hD2 hS2 => ?_)
  · refine va_fit (F := fun j => va_rf ((fun i => some (aK E i)) j)) (fun i hi => ?_) i v hv
    rfl
  · obtain ⟨e1, e2⟩ := sp_Diff.mp hD2
    rw [List.cons_append, List.pairwise_cons] at e1
    have hq2 : q ≠ aX E 2 := fun he => e1.1 (q, qA (aC E 6) 6 (fun i => some (aK E i))) (List.mem_append_right _ (List.mem_singleton.mpr rfl)) he.symm
    have hsub : ∀ z, z ∈ cs.flatten ++ [(q, qA (aC E 6) 6 (fun i => some (aK E i)))] → z ∈ (x2 :: cs.flatten) ++ [(q, qA (aC E 6) 6 (fun i => some (aK E i)))] := fun z hz => List.mem_cons_of_mem _ hz
    have hP3 : va_P E.1 Cl (cs.flatten ++ [(q, qA (aC E 6) 6 (fun i => some (aK E i)))]) H1 := sp_P.mpr fun z hz => sp_P.mp hP2 z (hsub z hz)
    have hD3 : va_D (xA X) (cs.flatten ++ [(q, qA (aC E 6) 6 (fun i => some (aK E i)))]) := sp_Diff.mpr ⟨e1.2, fun z hz => by
      rcases List.mem_append.mp hz with h | h
      · exact d2 z h
      · rw [List.mem_singleton.mp h]
        exact (e2 _ (hsub _ (List.mem_append_right _ (List.mem_singleton.mpr rfl)))).resolve_right hq2⟩
    have hc2 : H1[aX E 2]? = some (vp_cell (aC E 6) (6, .inr (.inr (.inr (.inr (fun i => some (aK E i))))))) := sp_P.mp hP2 x2 (List.mem_append_left _ List.mem_cons_self)
    exact kk q H1 locs ls (sp_Pp sp_front hP3) (sp_Dp sp_front hD3) ⟨hS2.1, fun z h5 h6 => by
      by_cases c : z = aX E 2
      · rw [c, hc2, hc0]
      · exact hS2.2.1 z h5 (fun y => y.elim h6 c), hS.2.2⟩ hl
/-- a cast of an array of Kinds to its own class -/
theorem g_castK (hX : Cx E X cc own nL fr mc ms rl) {a index : Nat} {n : Nat} {f : Nat → Option Nat} (hm : (a, qA (aC E 6) n f) ∈ cs.flatten) (hw : Cond.classLink own index "[LQuorumspire$Kind;" ∈ lw_all) (hdg : decode cc pc = .ok (.checkcast index, 3))
    (kk : G E l X cs kc ks (pc + 3) lv (.ref a :: rest)) : G E l X cs kc ks pc lv (.ref a :: rest) := fun H locs ls hP hD hS hl => by
  obtain ⟨q0, h0⟩ := List.mem_iff_getElem?.mp hm
  exact va_castA hX.1 hX.2.1 hX.2.2.2.2.1 (hX.2.2.2.2.2.1 _ hw) hP q0 h0 (kn_nm hX) hdg (kk H locs ls hP hD hS hl)
end CLN

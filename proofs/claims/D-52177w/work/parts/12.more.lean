/-! ===== CORE 6: arraycopy, class objects, constants' fields, doubles, throws and handlers ===== -/
section XD
variable {κ : Kx} {d : Nat} {M M' : XM} {pc : Nat} {L L' : List (Option Value)} {st stk : List Value} {G : Gt} {a b a1 b1 a2 b2 n : Nat} {Φ Φ' : Option Value → Gt → Prop} {Ψ : String → Nat → Gt → Prop}
theorem nn_of {z : Int32} {k : Nat} (h : z = nI k) (hk : k < 2147483648) : ¬ z < 0 ∧ z.toNatClampNeg = k ∧ z.toInt = (k : Int) := by
  subst h
  exact ⟨nI_pos (by omega), nI_clamp (by omega), nI_toInt (by omega)⟩
theorem X_copyI {t src dst index : Nat} {x1 x2 x3 : Int32} (sp dp k q : Nat) (hd : decode (mB M) pc = .ok (.invokestatic index, 3)) (hq : pc + 3 = q) (w1 : Cond.methodLink (mO M) index arraycopyName ∈ lw_all) (w2 : Cond.native arraycopyName ∈ lw_all) (w3 : Cond.static arraycopyName ∈ lw_all) (w4 : Cond.initialized "java/lang/System" ∈ lw_all)
    (ht : t = 100 ∨ t = 101) (hs : gT G src = t) (hdt : gT G dst = t) (hB : kB κ ≤ dst) (e1 : x1 = nI sp) (e2 : x2 = nI dp) (e3 : x3 = nI k) (h4 : sp + k ≤ gL G src) (h5 : dp + k ≤ gL G dst) (hcs : (st.map fun v => v.category).sum ≤ 8)
    (kk : X κ (d + 1) M q L st (wI G dst (va_cpy (eI G src) (eI G dst) sp dp k)) a b Φ Ψ) : X κ (d + 1) M pc L (.int x3 :: .int x2 :: .ref dst :: .int x1 :: .ref src :: st) G a b Φ Ψ := by
  subst hq
  intro p e s m args below meth c H locs cells slots mc ms ls C0 hR hS hl ha hb
  obtain ⟨hc0, hl0⟩ := ar_int hR hs ht
  obtain ⟨hc1, hl1⟩ := ar_int hR hdt ht
  obtain ⟨p1, p2, p3⟩ := nn_of e1 (by omega)
  obtain ⟨r1, r2, r3⟩ := nn_of e2 (by omega)
  obtain ⟨s1, s2, s3⟩ := nn_of e3 (by omega)
  have hAr := C0.kn.2.1 t (by omega) (by omega)
  obtain ⟨-, k0, hk0, cm0, hkk0⟩ := hAr (gL G src) (fun j => .int (eI G src j))
  have hprim : refKind (aTy t) = false := by rcases ht with h | h <;> (subst h; rfl)
  have hfit : ∀ i, i < k → fits (aTy t) (.int (eI G src (sp + i))) = true := by
    intro i hi
    rcases ht with h | h
    · subst h; rfl
    · subst h; exact (hR.ar hs (by omega)).2.2.2 rfl _ (by omega)
  intro T hT Y
  obtain ⟨vm', X', step⟩ := Y.arraycopy C0.ex C0.ow (C0.ws _ w1) (C0.ws _ w2) (C0.ws _ w3) (C0.ws _ w4) (src := src) (dst := dst) (cs := vp_cell ((kD κ).1 t) (gL G src, .inl (eI G src))) (cd := vp_cell ((kD κ).1 t) (gL G dst, .inl (eI G dst))) (srcPos := x1) (destPos := x2) (n := x3) (by rw [hT]; exact hc0) (by rw [hT]; exact hc1)
    (fun _ h => by cases h) (fun _ h => by cases h) (fun h => by cases h) (fun h => by cases h) hk0 hk0 hkk0 hkk0 (by simp [hprim]) p1 r1 s1
    (by rw [p3, s3]; show ¬ _ > ((arrV _ (gL G src) (fun j => .int (eI G src j))).slots.size : Int); rw [arrV_size]; omega)
    (by rw [r3, s3]; show ¬ _ > ((arrV _ (gL G dst) (fun j => .int (eI G dst j))).slots.size : Int); rw [arrV_size]; omega)
    (fun vm₁ _ i hi => by
      rw [s2] at hi
      rw [p2]
      have ee : (vp_cell ((kD κ).1 t) (gL G src, .inl (eI G src))).slots.getD (sp + i) .null = .int (eI G src (sp + i)) := by
        show (arrV _ (gL G src) (fun j => .int (eI G src j))).slots.getD _ _ = _
        rw [Array.getD_eq_getD_getElem?, arrV_read _ _ (by omega)]
        rfl
      refine ⟨?_, ?_⟩
      · rw [ee]
        exact hfit i hi
      · rw [ee]
        exact trivial)
    (g := F0 m pc ls (.int x3 :: .int x2 :: .ref dst :: .int x1 :: .ref src :: st)) rfl (by rw [C0.ml]; exact hl.1) (rest := st) rfl (by rw [C0.cd]; exact hd) (show 1 ≤ d + 1 by omega) (by show 2 * 0 + _ + _ ≤ 40 * (d + 1) + 20; have hw : nativeFrameWords "java/lang/System" "arraycopy" 5 ≤ 20 := (by decide); omega)
  have e9 : copied (vp_cell ((kD κ).1 t) (gL G src, .inl (eI G src))) (vp_cell ((kD κ).1 t) (gL G dst, .inl (eI G dst))) x1 x2 x3 = vp_cell ((kD κ).1 t) (gL G dst, .inl (va_cpy (eI G src) (eI G dst) sp dp k)) := by
    rw [← p2, ← r2, ← s2]
    exact va_copied (fun z => .int z) _ _ (eI G src) (eI G dst) (by omega)
  rw [e9] at X' step
  have hl9 : dst < H.size := (Array.getElem?_eq_some_iff.mp hc1).1
  have hheap : ((T.setVm vm').setCell dst (vp_cell ((kD κ).1 t) (gL G dst, .inl (va_cpy (eI G src) (eI G dst) sp dp k)))).heap = H.setIfInBounds dst (vp_cell ((kD κ).1 t) (gL G dst, .inl (va_cpy (eI G src) (eI G dst) sp dp k))) := by rw [← hT]; rfl
  have oq : ∀ q : Nat, q ≠ dst → (H.setIfInBounds dst (vp_cell ((kD κ).1 t) (gL G dst, .inl (va_cpy (eI G src) (eI G dst) sp dp k))))[q]? = H[q]? := fun q hq => by simp [Array.getElem?_setIfInBounds, Ne.symm hq]
  have hR1 : Rp κ (wI G dst (va_cpy (eI G src) (eI G dst) sp dp k)) (H.setIfInBounds dst (vp_cell ((kD κ).1 t) (gL G dst, .inl (va_cpy (eI G src) (eI G dst) sp dp k)))) := by
    refine ar_put hR hB (by simp) oq wI_agr hdt (by omega) (by omega) ?_ hl1 (fun h i hi => ?_)
    · have f1 : eI (wI G dst (va_cpy (eI G src) (eI G dst) sp dp k)) dst = va_cpy (eI G src) (eI G dst) sp dp k := by funext i; rw [eI_wI, if_pos rfl]
      rw [gC, if_neg (by omega), if_neg (by omega), f1]
      simp [Array.getElem?_setIfInBounds, hl9]
      rfl
    · rw [eI_wI, if_pos rfl]
      unfold va_cpy
      split
      · have := hfit (i - dp) (by omega)
        subst h
        exact this
      · exact (hR.ar hdt (by omega)).2.2.2 h i hi
  obtain ⟨t9, a9, b9⟩ := kk p e s m args below meth c _ _ cells slots mc ms ls C0 hR1 ⟨by simp; exact hS.1, fun q g1 g2 => by
      rw [oq q (fun e => g2 (by rw [e]; exact hB))]
      exact hS.2.1 q g1 g2, fun q hq => by
      rcases List.mem_append.mp hq with h | h
      · exact hS.2.2 q h
      · obtain ⟨z, -, hz⟩ := List.mem_map.mp h
        rw [← hz]
        exact hB⟩ hl ha hb _ hheap X'
  exact ⟨t9, step t9 a9, b9⟩
theorem X_copyR {src dst index : Nat} {x1 x2 x3 : Int32} (sp dp k q : Nat) (hd : decode (mB M) pc = .ok (.invokestatic index, 3)) (hq : pc + 3 = q) (w1 : Cond.methodLink (mO M) index arraycopyName ∈ lw_all) (w2 : Cond.native arraycopyName ∈ lw_all) (w3 : Cond.static arraycopyName ∈ lw_all) (w4 : Cond.initialized "java/lang/System" ∈ lw_all)
    (hs : gT G src = 103) (hdt : gT G dst = 103) (hB : kB κ ≤ dst) (e1 : x1 = nI sp) (e2 : x2 = nI dp) (e3 : x3 = nI k) (h4 : sp + k ≤ gL G src) (h5 : dp + k ≤ gL G dst) (hel : ∀ i, i < k → ∀ y, eR G src (sp + i) = some y → ∃ (t : Nat) (C : String) (T : u_T) (N : Nat), gT G y = t ∧ t ≠ 0 ∧ CL[t]? = some (C, T, N) ∧ Cond.castable C "java/lang/Object" ∈ lw_tbl) (hcs : (st.map fun v => v.category).sum ≤ 8)
    (kk : X κ (d + 1) M q L st (wR G dst (va_cpy (eR G src) (eR G dst) sp dp k)) a b Φ Ψ) : X κ (d + 1) M pc L (.int x3 :: .int x2 :: .ref dst :: .int x1 :: .ref src :: st) G a b Φ Ψ := by
  subst hq
  intro p e s m args below meth c H locs cells slots mc ms ls C0 hR hS hl ha hb
  obtain ⟨hc0, hl0, -⟩ := ar_ref hR hs (Nat.le_refl _)
  obtain ⟨hc1, hl1, -⟩ := ar_ref hR hdt (Nat.le_refl _)
  obtain ⟨p1, p2, p3⟩ := nn_of e1 (by omega)
  obtain ⟨r1, r2, r3⟩ := nn_of e2 (by omega)
  obtain ⟨s1, s2, s3⟩ := nn_of e3 (by omega)
  have hAr := C0.kn.2.1 103 (by omega) (by omega)
  obtain ⟨kA, comp, g1, g2, g3, -⟩ := C0.kn.2.2 103 (by omega) (by omega)
  obtain ⟨-, k0, hk0, cm0, hkk0⟩ := hAr (gL G src) (fun j => va_rf (eR G src j))
  cases hk0.symm.trans g1
  cases hkk0.symm.trans g2
  intro T hT Y
  obtain ⟨vm', X', step⟩ := Y.arraycopy C0.ex C0.ow (C0.ws _ w1) (C0.ws _ w2) (C0.ws _ w3) (C0.ws _ w4) (src := src) (dst := dst) (cs := vp_cell ((kD κ).1 103) (gL G src, .inr (.inr (.inr (.inr (eR G src)))))) (cd := vp_cell ((kD κ).1 103) (gL G dst, .inr (.inr (.inr (.inr (eR G dst)))))) (srcPos := x1) (destPos := x2) (n := x3) (by rw [hT]; exact hc0) (by rw [hT]; exact hc1)
    (fun _ h => by cases h) (fun _ h => by cases h) (fun h => by cases h) (fun h => by cases h) hk0 hk0 hkk0 hkk0 rfl p1 r1 s1
    (by rw [p3, s3]; show ¬ _ > ((arrV _ (gL G src) (fun j => va_rf (eR G src j))).slots.size : Int); rw [arrV_size]; omega)
    (by rw [r3, s3]; show ¬ _ > ((arrV _ (gL G dst) (fun j => va_rf (eR G dst j))).slots.size : Int); rw [arrV_size]; omega)
    (fun vm₁ hal i hi => by
      rw [s2] at hi
      rw [p2]
      have ee : (vp_cell ((kD κ).1 103) (gL G src, .inr (.inr (.inr (.inr (eR G src)))))).slots.getD (sp + i) .null = va_rf (eR G src (sp + i)) := by
        show (arrV _ (gL G src) (fun j => va_rf (eR G src j))).slots.getD _ _ = _
        rw [Array.getD_eq_getD_getElem?, arrV_read _ _ (by omega)]
        rfl
      rw [ee]
      cases hy : eR G src (sp + i) with
      | none => exact ⟨rfl, trivial⟩
      | some y =>
        obtain ⟨t, C, TT, N, f1, f2, f3, f4⟩ := hel i hi y hy
        obtain ⟨cellV, v1, v2, ⟨kC, hkC⟩, hasg⟩ := any_of C0 hR f1 f2 f3 (E := "java/lang/Object") (Or.inr f4)
        obtain ⟨kE, hkE, -⟩ := Vm.findClass_spec g3
        obtain ⟨kC', hkC', -⟩ := hal.2.2 _ _ hkC
        obtain ⟨kE', hkE', -⟩ := hal.2.2 _ _ hkE
        refine ⟨rfl, cellV, (show T.heap[y]? = some cellV by rw [hT]; exact v1), (fun q h => by rw [h] at v2; cases v2), ⟨kC', hkC'⟩, ⟨kE', hkE'⟩, ?_⟩
        show vm₁.assignable _ _ = true
        rw [hal.assignable]
        exact hasg _ g3)
    (g := F0 m pc ls (.int x3 :: .int x2 :: .ref dst :: .int x1 :: .ref src :: st)) rfl (by rw [C0.ml]; exact hl.1) (rest := st) rfl (by rw [C0.cd]; exact hd) (show 1 ≤ d + 1 by omega) (by show 2 * 0 + _ + _ ≤ 40 * (d + 1) + 20; have hw : nativeFrameWords "java/lang/System" "arraycopy" 5 ≤ 20 := (by decide); omega)
  have e9 : copied (vp_cell ((kD κ).1 103) (gL G src, .inr (.inr (.inr (.inr (eR G src)))))) (vp_cell ((kD κ).1 103) (gL G dst, .inr (.inr (.inr (.inr (eR G dst)))))) x1 x2 x3 = vp_cell ((kD κ).1 103) (gL G dst, .inr (.inr (.inr (.inr (va_cpy (eR G src) (eR G dst) sp dp k))))) := by
    rw [← p2, ← r2, ← s2, vp_cell_q, vp_cell_q, vp_cell_q]
    exact va_copied (fun z => va_rf z) _ _ (eR G src) (eR G dst) (by omega)
  rw [e9] at X' step
  have hl9 : dst < H.size := (Array.getElem?_eq_some_iff.mp hc1).1
  have hheap : ((T.setVm vm').setCell dst (vp_cell ((kD κ).1 103) (gL G dst, .inr (.inr (.inr (.inr (va_cpy (eR G src) (eR G dst) sp dp k))))))).heap = H.setIfInBounds dst (vp_cell ((kD κ).1 103) (gL G dst, .inr (.inr (.inr (.inr (va_cpy (eR G src) (eR G dst) sp dp k)))))) := by rw [← hT]; rfl
  have oq : ∀ q : Nat, q ≠ dst → (H.setIfInBounds dst (vp_cell ((kD κ).1 103) (gL G dst, .inr (.inr (.inr (.inr (va_cpy (eR G src) (eR G dst) sp dp k)))))))[q]? = H[q]? := fun q hq => by simp [Array.getElem?_setIfInBounds, Ne.symm hq]
  have hR1 : Rp κ (wR G dst (va_cpy (eR G src) (eR G dst) sp dp k)) (H.setIfInBounds dst (vp_cell ((kD κ).1 103) (gL G dst, .inr (.inr (.inr (.inr (va_cpy (eR G src) (eR G dst) sp dp k))))))) := by
    refine ar_put hR hB (by simp) oq wR_agr hdt (by omega) (by omega) ?_ hl1 (fun h i hi => by omega)
    have f1 : eR (wR G dst (va_cpy (eR G src) (eR G dst) sp dp k)) dst = va_cpy (eR G src) (eR G dst) sp dp k := by funext i; rw [eR_wR, if_pos rfl]
    rw [gC_ref (Nat.le_refl _), f1]
    simp [Array.getElem?_setIfInBounds, hl9]
    rfl
  obtain ⟨t9, a9, b9⟩ := kk p e s m args below meth c _ _ cells slots mc ms ls C0 hR1 ⟨by simp; exact hS.1, fun q g1 g2 => by
      rw [oq q (fun e => g2 (by rw [e]; exact hB))]
      exact hS.2.1 q g1 g2, fun q hq => by
      rcases List.mem_append.mp hq with h | h
      · exact hS.2.2 q h
      · obtain ⟨z, -, hz⟩ := List.mem_map.mp h
        rw [← hz]
        exact hB⟩ hl ha hb _ hheap X'
  exact ⟨t9, step t9 a9, b9⟩
theorem X_ldcM {index : Nat} (q : Nat) (hd : decode (mB M) pc = .ok (.ldc index, 2)) (hq : pc + 2 = q) (hw : Cond.classLink (mO M) index "[Ljava/lang/Object;" ∈ lw_all) (kk : X κ d M q L (.ref (kC κ 26) :: st) G a b Φ Ψ) : X κ d M pc L st G a b Φ Ψ := by
  subst hq
  intro p e s m args below meth c H locs cells slots mc ms ls C0 hR hS hl ha hb
  exact va_ldcM C0.ex C0.cd C0.ow (C0.ws _ hw) (va_Mi.moved C0.wm.alike C0.1.2.2.2.2.2.2.2.2.2.2.2.2.2.2.2.2.2.2.2.2.1) hd (kk p e s m args below meth c H locs cells slots mc ms ls C0 hR hS hl ha hb)
/-- getClass() of an array of objects -/
theorem X_getC {r index : Nat} (q : Nat) (hd : decode (mB M) pc = .ok (.invokevirtual index, 3)) (hq : pc + 3 = q) (w1 : Cond.methodLink (mO M) index ⟨"java/lang/Object", "getClass", "()Ljava/lang/Class;"⟩ ∈ lw_all) (w2 : Cond.declares ⟨"java/lang/Object", "getClass", "()Ljava/lang/Class;"⟩ ∈ lw_tbl) (w3 : Cond.selects "[Ljava/lang/Object;" ⟨"java/lang/Object", "getClass", "()Ljava/lang/Class;"⟩ ⟨"java/lang/Object", "getClass", "()Ljava/lang/Class;"⟩ ∈ lw_all) (w4 : Cond.instanceMethod ⟨"java/lang/Object", "getClass", "()Ljava/lang/Class;"⟩ ∈ lw_all) (w5 : Cond.native ⟨"java/lang/Object", "getClass", "()Ljava/lang/Class;"⟩ ∈ lw_all) (ht : gT G r = 103) (hcs : (st.map fun v => v.category).sum ≤ 8)
    (kk : X κ (d + 1) M q L (.ref (kC κ 26) :: st) G a b Φ Ψ) : X κ (d + 1) M pc L (.ref r :: st) G a b Φ Ψ := by
  subst hq
  intro p e s m args below meth c H locs cells slots mc ms ls C0 hR hS hl ha hb
  obtain ⟨hc0, hl0, -⟩ := ar_ref hR ht (Nat.le_refl _)
  have hra := C0.kn.2.2 103 (by omega) (by omega)
  refine va_getC C0.ex C0.cd (C0.ml.trans hl.1.symm) C0.ow (C0.ws _ w1) (va_Dc.use (va_Dc.moved C0.wm.alike (va_Dc.of (C0.1.2.2.1 _ w2)))) (C0.ws _ w3) (C0.ws _ w4) (C0.ws _ w5) (va_Mi.moved C0.wm.alike C0.1.2.2.2.2.2.2.2.2.2.2.2.2.2.2.2.2.2.2.2.2.1) ⟨_, hc0, rfl, va_nmO hra (by decide +kernel)⟩ (show 1 ≤ d + 1 by omega) ?_ hd (kk p e s m args below meth c H locs cells slots mc ms ls C0 hR hS hl ha hb)
  show _ + 14 ≤ 40 * (d + 1) + 20
  omega
/-! fields of the constant objects -/
theorem Cx.OF {p : Program} {s : State} {m : MethodId} {args : Array Value} {meth : Method} {c : Code} (C : Cx κ M p s m args meth c) {o n dd : String} {v : Value} {t : Nat} (h : va_OF o n dd v t (kF κ) (kS κ) (kS κ).heap) : va_OF o n dd v t (kF κ) s s.heap :=
  (va_OF.moved C.wm.alike h).kept (fun q h1 _ => C.od q h1)
theorem X_getOI {index i : Nat} {o nm dd : String} {z : Int32} (q : Nat) (hd : decode (mB M) pc = .ok (.getfield index, 3)) (hq : pc + 3 = q) (hi : (i, o, nm, dd, z) ∈ OFI) (hw : Cond.fieldLink (mO M) index o nm dd ∈ lw_all ∨ ∃ h, Cond.fieldLinkNest (mO M) index o nm dd h ∈ lw_tbl) (kk : X κ d M q L (.int z :: st) G a b Φ Ψ) : X κ d M pc L (.ref (kC κ i) :: st) G a b Φ Ψ := by
  subst hq
  intro p e s m args below meth c H locs cells slots mc ms ls C0 hR hS hl ha hb
  obtain ⟨cf, k, fi, f, cell, h1, h2, h3, h4, h5, h6⟩ := (C0.OF (C0.1.2.2.2.2.2.2.1 _ hi)).kept hS.2.1
  rcases hw with hw | ⟨h, hw⟩
  · exact W.getf C0.ex C0.cd C0.ow (C0.ws _ hw) h1 h2 h3 h4 h5 rfl rfl hd (kk p e s m args below meth c H locs cells slots mc ms ls C0 hR hS hl ha hb)
  · exact va_Wgetf C0.ex C0.cd C0.ow (C0.nest hw) h1 h2 h3 h4 h5 rfl rfl hd (kk p e s m args below meth c H locs cells slots mc ms ls C0 hR hS hl ha hb)
theorem X_getOT {index i j : Nat} {o nm dd : String} (q : Nat) (hd : decode (mB M) pc = .ok (.getfield index, 3)) (hq : pc + 3 = q) (hi : (i, o, nm, dd, j) ∈ OFT) (hw : Cond.fieldLink (mO M) index o nm dd ∈ lw_all ∨ ∃ h, Cond.fieldLinkNest (mO M) index o nm dd h ∈ lw_tbl) (kk : X κ d M q L (.ref (kX κ j) :: st) G a b Φ Ψ) : X κ d M pc L (.ref (kC κ i) :: st) G a b Φ Ψ := by
  subst hq
  intro p e s m args below meth c H locs cells slots mc ms ls C0 hR hS hl ha hb
  obtain ⟨cf, k, fi, f, cell, h1, h2, h3, h4, h5, h6⟩ := (C0.OF (C0.1.2.2.2.2.2.2.2.1 _ hi)).kept hS.2.1
  rcases hw with hw | ⟨h, hw⟩
  · exact W.getf C0.ex C0.cd C0.ow (C0.ws _ hw) h1 h2 h3 h4 h5 rfl rfl hd (kk p e s m args below meth c H locs cells slots mc ms ls C0 hR hS hl ha hb)
  · exact va_Wgetf C0.ex C0.cd C0.ow (C0.nest hw) h1 h2 h3 h4 h5 rfl rfl hd (kk p e s m args below meth c H locs cells slots mc ms ls C0 hR hS hl ha hb)
/-! doubles and floats, for the mean and the load factor -/
theorem X_i2d {x : Int32} (q : Nat) (hd : decode (mB M) pc = .ok (.i2d, 1)) (hq : pc + 1 = q) (kk : X κ d M q L (.double (FP.i2d x) :: st) G a b Φ Ψ) : X κ d M pc L (.int x :: st) G a b Φ Ψ := by
  subst hq
  intro p e s m args below meth c H locs cells slots mc ms ls C0 hR hS hl ha hb
  exact lv_i2d C0.ex C0.cd hd (kk p e s m args below meth c H locs cells slots mc ms ls C0 hR hS hl ha hb)
theorem X_ddiv {x y : UInt64} (q : Nat) (hd : decode (mB M) pc = .ok (.ddiv, 1)) (hq : pc + 1 = q) (hn : vf_n64 (FP.ddiv x y)) (kk : X κ d M q L (.double (FP.ddiv x y) :: st) G a b Φ Ψ) : X κ d M pc L (.double y :: .double x :: st) G a b Φ Ψ := by
  subst hq
  intro p e s m args below meth c H locs cells slots mc ms ls C0 hR hS hl ha hb
  exact lv_ddiv C0.ex C0.cd hd hn (kk p e s m args below meth c H locs cells slots mc ms ls C0 hR hS hl ha hb)
theorem X_dconst0 (q : Nat) (hd : decode (mB M) pc = .ok (.dconst 0, 1)) (hq : pc + 1 = q) (kk : X κ d M q L (.double FP.dconst0 :: st) G a b Φ Ψ) : X κ d M pc L st G a b Φ Ψ := by
  subst hq
  intro p e s m args below meth c H locs cells slots mc ms ls C0 hR hS hl ha hb
  exact lv_dconst0 C0.ex C0.cd hd (kk p e s m args below meth c H locs cells slots mc ms ls C0 hR hS hl ha hb)
theorem X_dcmp {x y : UInt64} {op : CmpOp} (q : Nat) (hd : decode (mB M) pc = .ok (.dcmp op, 1)) (hq : pc + 1 = q) (kk : X κ d M q L (.int (Op.cmpValue (FP.dcmp x y) op) :: st) G a b Φ Ψ) : X κ d M pc L (.double y :: .double x :: st) G a b Φ Ψ := by
  subst hq
  intro p e s m args below meth c H locs cells slots mc ms ls C0 hR hS hl ha hb
  exact lv_dcmp C0.ex C0.cd hd (kk p e s m args below meth c H locs cells slots mc ms ls C0 hR hS hl ha hb)
theorem X_ldcF {index : Nat} {v : UInt32} (q : Nat) (hd : decode (mB M) pc = .ok (.ldc index, 2)) (hq : pc + 2 = q) (hw : Jvm.Cond.constantFloat (mO M) index v ∈ lw_all) (kk : X κ d M q L (.float v :: st) G a b Φ Ψ) : X κ d M pc L st G a b Φ Ψ := by
  subst hq
  intro p e s m args below meth c H locs cells slots mc ms ls C0 hR hS hl ha hb
  exact lv_ldcf C0.ex C0.cd C0.ow (C0.ws _ hw) hd (kk p e s m args below meth c H locs cells slots mc ms ls C0 hR hS hl ha hb)
end XD
section XPT
variable {κ : Kx} {d : Nat} {M : XM} {pc : Nat} {L : List (Option Value)} {st : List Value} {G : Gt} {a b : Nat} {Φ : Option Value → Gt → Prop} {Ψ : String → Nat → Gt → Prop}
theorem X_putI {t k r index : Nat} {C : String} {T : u_T} {N : Nat} {x : Int32} (q : Nat) (hd : decode (mB M) pc = .ok (.putfield index, 3)) (hq : pc + 3 = q) (hC : CL[t]? = some (C, T, N)) (h0 : t ≠ 0) (hk : k < N) {ref : String} (hs : ref = (T k).1 ∨ Cond.sameField ref (T k).1 (T k).2.1 (T k).2.2.1 ∈ lw_all) (hw : Cond.fieldLink (mO M) index ref (T k).2.1 (T k).2.2.1 ∈ lw_all) (hf : (T k).2.2.2 = false ∨ ((mY M).name = "<init>" ∧ (T k).1 = mO M)) (hv : okV (tyF t k) (.int x) = true) (hn : narrow (tyF t k) (.int x) = .int x) (hfit : fits (tyF t k) (.int x) = true) (hB : kB κ ≤ r) (ht : gT G r = t) (kk : X κ d M q L st (sI G t k r x) a b Φ Ψ) : X κ d M pc L (.int x :: .ref r :: st) G a b Φ Ψ := X_put q hd hq hC h0 hk hs hw hf hv hn hfit hB ht kk
theorem X_pnI {t k r index : Nat} {C : String} {T : u_T} {N : Nat} {x : Int32} (q : Nat) (hd : decode (mB M) pc = .ok (.putfield index, 3)) (hq : pc + 3 = q) (hC : CL[t]? = some (C, T, N)) (h0 : t ≠ 0) (hk : k < N) {host : String} (hw : Cond.fieldLinkNest (mO M) index (T k).1 (T k).2.1 (T k).2.2.1 host ∈ lw_tbl) (hf : (T k).2.2.2 = false) (hv : okV (tyF t k) (.int x) = true) (hn : narrow (tyF t k) (.int x) = .int x) (hfit : fits (tyF t k) (.int x) = true) (hB : kB κ ≤ r) (ht : gT G r = t) (kk : X κ d M q L st (sI G t k r x) a b Φ Ψ) : X κ d M pc L (.int x :: .ref r :: st) G a b Φ Ψ := X_pnt q hd hq hC h0 hk hw hf hv hn hfit hB ht kk
theorem X_putR {t k r index : Nat} {C : String} {T : u_T} {N : Nat} {x : Nat} (q : Nat) (hd : decode (mB M) pc = .ok (.putfield index, 3)) (hq : pc + 3 = q) (hC : CL[t]? = some (C, T, N)) (h0 : t ≠ 0) (hk : k < N) {ref : String} (hs : ref = (T k).1 ∨ Cond.sameField ref (T k).1 (T k).2.1 (T k).2.2.1 ∈ lw_all) (hw : Cond.fieldLink (mO M) index ref (T k).2.1 (T k).2.2.1 ∈ lw_all) (hf : (T k).2.2.2 = false ∨ ((mY M).name = "<init>" ∧ (T k).1 = mO M)) (hv : okV (tyF t k) (.ref x) = true) (hn : narrow (tyF t k) (.ref x) = .ref x) (hfit : fits (tyF t k) (.ref x) = true) (hB : kB κ ≤ r) (ht : gT G r = t) (kk : X κ d M q L st (sR G t k r (some x)) a b Φ Ψ) : X κ d M pc L (.ref x :: .ref r :: st) G a b Φ Ψ := X_put q hd hq hC h0 hk hs hw hf hv hn hfit hB ht kk
theorem X_pnR {t k r index : Nat} {C : String} {T : u_T} {N : Nat} {x : Nat} (q : Nat) (hd : decode (mB M) pc = .ok (.putfield index, 3)) (hq : pc + 3 = q) (hC : CL[t]? = some (C, T, N)) (h0 : t ≠ 0) (hk : k < N) {host : String} (hw : Cond.fieldLinkNest (mO M) index (T k).1 (T k).2.1 (T k).2.2.1 host ∈ lw_tbl) (hf : (T k).2.2.2 = false) (hv : okV (tyF t k) (.ref x) = true) (hn : narrow (tyF t k) (.ref x) = .ref x) (hfit : fits (tyF t k) (.ref x) = true) (hB : kB κ ≤ r) (ht : gT G r = t) (kk : X κ d M q L st (sR G t k r (some x)) a b Φ Ψ) : X κ d M pc L (.ref x :: .ref r :: st) G a b Φ Ψ := X_pnt q hd hq hC h0 hk hw hf hv hn hfit hB ht kk
theorem X_putN {t k r index : Nat} {C : String} {T : u_T} {N : Nat} (q : Nat) (hd : decode (mB M) pc = .ok (.putfield index, 3)) (hq : pc + 3 = q) (hC : CL[t]? = some (C, T, N)) (h0 : t ≠ 0) (hk : k < N) {ref : String} (hs : ref = (T k).1 ∨ Cond.sameField ref (T k).1 (T k).2.1 (T k).2.2.1 ∈ lw_all) (hw : Cond.fieldLink (mO M) index ref (T k).2.1 (T k).2.2.1 ∈ lw_all) (hf : (T k).2.2.2 = false ∨ ((mY M).name = "<init>" ∧ (T k).1 = mO M)) (hv : okV (tyF t k) (.null) = true) (hn : narrow (tyF t k) (.null) = .null) (hfit : fits (tyF t k) (.null) = true) (hB : kB κ ≤ r) (ht : gT G r = t) (kk : X κ d M q L st (sR G t k r none) a b Φ Ψ) : X κ d M pc L (.null :: .ref r :: st) G a b Φ Ψ := X_put q hd hq hC h0 hk hs hw hf hv hn hfit hB ht kk
theorem X_pnN {t k r index : Nat} {C : String} {T : u_T} {N : Nat} (q : Nat) (hd : decode (mB M) pc = .ok (.putfield index, 3)) (hq : pc + 3 = q) (hC : CL[t]? = some (C, T, N)) (h0 : t ≠ 0) (hk : k < N) {host : String} (hw : Cond.fieldLinkNest (mO M) index (T k).1 (T k).2.1 (T k).2.2.1 host ∈ lw_tbl) (hf : (T k).2.2.2 = false) (hv : okV (tyF t k) (.null) = true) (hn : narrow (tyF t k) (.null) = .null) (hfit : fits (tyF t k) (.null) = true) (hB : kB κ ≤ r) (ht : gT G r = t) (kk : X κ d M q L st (sR G t k r none) a b Φ Ψ) : X κ d M pc L (.null :: .ref r :: st) G a b Φ Ψ := X_pnt q hd hq hC h0 hk hw hf hv hn hfit hB ht kk
theorem X_putF {t k r index : Nat} {C : String} {T : u_T} {N : Nat} {x : UInt32} (q : Nat) (hd : decode (mB M) pc = .ok (.putfield index, 3)) (hq : pc + 3 = q) (hC : CL[t]? = some (C, T, N)) (h0 : t ≠ 0) (hk : k < N) {ref : String} (hs : ref = (T k).1 ∨ Cond.sameField ref (T k).1 (T k).2.1 (T k).2.2.1 ∈ lw_all) (hw : Cond.fieldLink (mO M) index ref (T k).2.1 (T k).2.2.1 ∈ lw_all) (hf : (T k).2.2.2 = false ∨ ((mY M).name = "<init>" ∧ (T k).1 = mO M)) (hv : okV (tyF t k) (.float x) = true) (hn : narrow (tyF t k) (.float x) = .float x) (hfit : fits (tyF t k) (.float x) = true) (hB : kB κ ≤ r) (ht : gT G r = t) (kk : X κ d M q L st (sI G t k r x.toInt32) a b Φ Ψ) : X κ d M pc L (.float x :: .ref r :: st) G a b Φ Ψ := X_put q hd hq hC h0 hk hs hw hf hv hn hfit hB ht kk
theorem X_pnF {t k r index : Nat} {C : String} {T : u_T} {N : Nat} {x : UInt32} (q : Nat) (hd : decode (mB M) pc = .ok (.putfield index, 3)) (hq : pc + 3 = q) (hC : CL[t]? = some (C, T, N)) (h0 : t ≠ 0) (hk : k < N) {host : String} (hw : Cond.fieldLinkNest (mO M) index (T k).1 (T k).2.1 (T k).2.2.1 host ∈ lw_tbl) (hf : (T k).2.2.2 = false) (hv : okV (tyF t k) (.float x) = true) (hn : narrow (tyF t k) (.float x) = .float x) (hfit : fits (tyF t k) (.float x) = true) (hB : kB κ ≤ r) (ht : gT G r = t) (kk : X κ d M q L st (sI G t k r x.toInt32) a b Φ Ψ) : X κ d M pc L (.float x :: .ref r :: st) G a b Φ Ψ := X_pnt q hd hq hC h0 hk hw hf hv hn hfit hB ht kk
end XPT

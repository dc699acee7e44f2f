/-! ===== CORE 5: contracts and calls ===== -/
def entL : List Value → List (Option Value)
  | [] => []
  | v :: t => some v :: (if v.category = 2 then none :: entL t else entL t)
theorem entL_len : ∀ vs : List Value, (entL vs).length = (lg_sl vs).length
  | [] => rfl
  | v :: t => by
    have ih := entL_len t
    by_cases h : v.category = 2
    · simp [entL, lg_sl, h] at ih ⊢; omega
    · simp [entL, lg_sl, h] at ih ⊢; omega
theorem entL_sub : ∀ (vs : List Value) (i k : Nat), ∀ q ∈ en i (entL vs ++ List.replicate k none), q ∈ lv_args i vs
  | [], i, k => by
    intro q hq
    obtain ⟨j, h1, h2⟩ := (en_mem _ i q).mp hq
    simp only [entL, List.nil_append] at h2
    have := List.mem_of_getElem? h2
    have := List.eq_of_mem_replicate this
    cases this
  | v :: t, i, k => by
    intro q hq
    by_cases h : v.category = 2
    · simp only [entL, h, if_true, List.cons_append, en, List.mem_cons] at hq
      simp only [lv_args, h, if_true, List.mem_cons]
      rcases hq with hq | hq
      · exact Or.inl hq
      · exact Or.inr (entL_sub t (i + 1 + 1) k q hq)
    · simp only [entL, h, if_false, List.cons_append, en, List.mem_cons] at hq
      simp only [lv_args, h, if_false, List.mem_cons]
      rcases hq with hq | hq
      · exact Or.inl hq
      · exact Or.inr (entL_sub t (i + 1) k q hq)
/-- what a method's name and tables say: n arguments (this apart) -/
def MOk (M : XM) (n : Nat) : Prop := plainFor (mY M) = true ∧ ((mY M).cls ≠ "java/lang/invoke/MethodHandle" ∧ (mY M).cls ≠ "java/lang/invoke/VarHandle" ∧ (parseMethodDescriptor (mY M).desc).map (fun d => d.parameters.length) = some n) ∧ mN M ≤ 21 ∧ mW M ∈ lw_all ∧ Cond.initialized (mY M).cls ∈ lw_all ∧ mO M = (mY M).cls
def PX (κ : Kx) (vs : List Value) (G : Gt) : Array Value → State → Prop := va_Pc vs (fun U => (kS κ).WarmedH U.vm ∧ Rp κ G U.heap)
section XC
variable {κ : Kx} {d : Nat} {M M' : XM} {pc : Nat} {L L' : List (Option Value)} {st stk : List Value} {G : Gt} {a b a1 b1 a2 b2 n : Nat} {Φ Φ' : Option Value → Gt → Prop} {Ψ : String → Nat → Gt → Prop}
theorem PX_blind {vs : List Value} : FrameBlind (PX κ vs G) := fun a U g mk h => ⟨h.1, h.2.1, h.2.2⟩
theorem mW_code {M : XM} (h : mH M = none) : mW M = Cond.code (mY M) (mB M) (mN M) (mR M) := by simp [mW, h]
theorem mW_codeW {M : XM} {hh : List (Nat × Nat × Nat × Nat)} (h : mH M = some hh) : mW M = Cond.codeWith (mY M) (mB M) (mN M) (mR M) hh := by simp [mW, h]
theorem X_met (hK : Kok κ) (hO : MOk M n) {vs : List Value} (hL : entL vs ++ List.replicate (mN M - (entL vs).length) none = L) (hfit : (lg_sl vs).length ≤ mN M) (h : X κ d M 0 L [] G a b Φ Ψ) : vx_Met (kL κ) (mY M) (mW M :: lw_all) (rmX d a b) (PX κ vs G) (QX κ Φ) (EX κ Ψ) a b (kF κ) := by
  refine MetFree.of_bodySF (code := mB M) (maxLocals := mN M) (ret := mR M) hO.1 ?_ ?_
  · intro args s m hpre hn
    have hw := atoms_spec (ws := mW M :: lw_all) hpre _ List.mem_cons_self
    cases hH : mH M with
    | none =>
      rw [mW_code hH] at hw
      obtain ⟨meth, c, h1, h2, h3, h4, h5, h6, -, -⟩ := Cond.code_spec hn hw
      exact ⟨meth, c, h1, h2, h3, h4, h5, h6⟩
    | some hh =>
      rw [mW_codeW hH] at hw
      obtain ⟨m9, meth, c, hn9, h1, h2, h3, h4, -, h5, h6, -⟩ := Cond.codeWith_spec hw
      cases hn.symm.trans hn9
      exact ⟨meth, c, h1, h2, h3, h4, h5, h6⟩
  · intro p e s m args below meth c s₁ B hml hP _
    obtain ⟨rfl, hWm, hR⟩ := hP
    have hh0 : s₁.heap = s.heap := by rw [B.state]; rfl
    have hws := atoms_spec (ws := mW M :: lw_all) B.pre
    have hw := hws _ List.mem_cons_self
    have C0 : Cx κ M p s m vs.toArray meth c := by
      refine ⟨hK, B.exec, B.bytes, B.returns, B.notSynchronized, hml, ?_, fun w h => hws w (List.mem_cons_of_mem _ h), hWm, hR.2.1, hR.2.2.1, (name_of_methodNamed B.named B.method).1, fun hH x hx => ?_, fun hh hH => ?_⟩
      · rw [hO.2.2.2.2.2]; exact findClass_of_methodNamed B.named
      · rw [mW_code hH] at hw
        obtain ⟨meth9, c9, h1, h2, -, -, -, -, h7, -⟩ := Cond.code_spec B.named hw
        cases Option.some.inj (h1.symm.trans B.method)
        cases Option.some.inj (h2.symm.trans (Stand.of_body B).code)
        rw [Array.isEmpty_iff.mp h7] at hx
        cases hx
      · rw [mW_codeW hH] at hw
        exact vx_table (x := mY M) B hw
    have hl := lv_entry vs hfit
    have hl' : lv_has ((lg_sl vs ++ List.replicate (mN M - (lg_sl vs).length) Slot.unset).toArray) (mN M) (en 0 L) := has_of hl (by rw [← hL]; exact entL_sub vs 0 _)
    have K := h p e s m vs.toArray below meth c s.heap [] 0 0 a b _ C0 hR va_S.rf hl' (by omega) (by omega)
    rw [← lg_entry_eq] at K
    obtain ⟨t, a1, o, b1, b2, b3⟩ := K s₁ hh0 (Stand.of_body B)
    exact ⟨t, o, a1, b1, b2, b3⟩
theorem X_fin {p : Program} {e : Env} {s : State} {m : MethodId} {args av : Array Value} {below : List Frame} {meth : Method} {c : Code} {H : Heap} {locs : List Loc} {cells slots mc ms : Nat} {ls : Array Slot} {st0 : List Value}
    (C0 : Cx κ M p s m args meth c) (hS : va_S (kF κ) s.heap H locs) (hl : lv_has ls (mN M) (en 0 L)) (hN : mH M = none)
    (hr : vx_Run p (kL κ) e (rmX d mc ms) s m args below meth c H locs cells slots a1 b1 (F0 m pc ls st0) st (QX κ Φ' av) (EX κ Ψ) (kF κ)) (h1 : cells + a1 + a2 ≤ mc) (h2 : slots + b1 + b2 ≤ ms)
    (kk : ∀ r G', Φ' r G' → X κ d M (pc + 3) L (r.toList ++ st) G' a2 b2 Φ Ψ) : W p (kL κ) e (rmX d mc ms) s m args below meth c H locs cells slots (vx_MQ below (QX κ Φ) (EX κ Ψ) args s mc ms (kF κ)) (F0 m pc ls st0) := by
  intro T hT Y
  rcases hr T hT Y with ⟨v, st₀, t, T', L9, h0, Y', hL9, e1, e2, ⟨r, G', ho, hΦ, hR', hF⟩, sg⟩ | ⟨q, st₀, t, T', L9, E, ce, h0, Y', hL9, e1, e2, ⟨G', hΨ, hR', hF⟩, hce, hcv, hcl, sg⟩
  · cases ho
    obtain ⟨-, -, k3⟩ := vx_keep h0 e1 hS (A1 := kF κ) (free := kF κ) (fun _ _ h => h) (fun _ h => h) hL9 hF
    obtain ⟨t2, x1, x2⟩ := kk _ G' hΦ p e s m args below meth c T'.heap (locs ++ L9) (cells + a1) (slots + b1) mc ms ls C0 (by rw [e1]; exact hR') k3 hl (by omega) (by omega) T' rfl Y'
    exact ⟨t2, sg t2 x1, x2⟩
  · obtain ⟨-, -, k3⟩ := vx_keep h0 e1 hS (A1 := kF κ) (free := kF κ) (fun _ _ h => h) (fun _ h => h) hL9 hF
    obtain ⟨t2, x1, x2⟩ := vx_out (Qc := QX κ Φ) (XC := EX κ Ψ) (free := kF κ) (mc := mc) (ms := ms) (pc := pc) (ls := ls) (rest := st) (fun x hx => (C0.no hN x hx).elim) C0.lk (show T'.heap[q]? = some ce by rw [e1]; exact hce) hcv hcl (fun t9 h9 _ => ⟨G', hΨ, by rw [h9, e1]; exact hR', k3.F h9⟩) k3.2.2 (by omega) (by omega) T' rfl Y'
    exact ⟨t2, sg.trans x1, x2⟩
theorem X_fin5 {p : Program} {e : Env} {s : State} {m : MethodId} {args av : Array Value} {below : List Frame} {meth : Method} {c : Code} {H : Heap} {locs : List Loc} {cells slots mc ms : Nat} {ls : Array Slot} {st0 : List Value}
    (C0 : Cx κ M p s m args meth c) (hS : va_S (kF κ) s.heap H locs) (hl : lv_has ls (mN M) (en 0 L)) (hN : mH M = none)
    (hr : vx_Run5 p (kL κ) e (rmX d mc ms) s m args below meth c H locs cells slots a1 b1 (F0 m pc ls st0) st (QX κ Φ' av) (EX κ Ψ) (kF κ)) (h1 : cells + a1 + a2 ≤ mc) (h2 : slots + b1 + b2 ≤ ms)
    (kk : ∀ r G', Φ' r G' → X κ d M (pc + 5) L (r.toList ++ st) G' a2 b2 Φ Ψ) : W p (kL κ) e (rmX d mc ms) s m args below meth c H locs cells slots (vx_MQ below (QX κ Φ) (EX κ Ψ) args s mc ms (kF κ)) (F0 m pc ls st0) := by
  intro T hT Y
  rcases hr T hT Y with ⟨v, st₀, t, T', L9, h0, Y', hL9, e1, e2, ⟨r, G', ho, hΦ, hR', hF⟩, sg⟩ | ⟨q, st₀, t, T', L9, E, ce, h0, Y', hL9, e1, e2, ⟨G', hΨ, hR', hF⟩, hce, hcv, hcl, sg⟩
  · cases ho
    obtain ⟨-, -, k3⟩ := vx_keep h0 e1 hS (A1 := kF κ) (free := kF κ) (fun _ _ h => h) (fun _ h => h) hL9 hF
    obtain ⟨t2, x1, x2⟩ := kk _ G' hΦ p e s m args below meth c T'.heap (locs ++ L9) (cells + a1) (slots + b1) mc ms ls C0 (by rw [e1]; exact hR') k3 hl (by omega) (by omega) T' rfl Y'
    exact ⟨t2, sg t2 x1, x2⟩
  · obtain ⟨-, -, k3⟩ := vx_keep h0 e1 hS (A1 := kF κ) (free := kF κ) (fun _ _ h => h) (fun _ h => h) hL9 hF
    obtain ⟨t2, x1, x2⟩ := vx_out (Qc := QX κ Φ) (XC := EX κ Ψ) (free := kF κ) (mc := mc) (ms := ms) (pc := pc) (ls := ls) (rest := st) (fun x hx => (C0.no hN x hx).elim) C0.lk (show T'.heap[q]? = some ce by rw [e1]; exact hce) hcv hcl (fun t9 h9 _ => ⟨G', hΨ, by rw [h9, e1]; exact hR', k3.F h9⟩) k3.2.2 (by omega) (by omega) T' rfl Y'
    exact ⟨t2, sg.trans x1, x2⟩
/-- the class of a receiver: by its kind, or a constant -/
def RV (κ : Kx) (G : Gt) (r : Nat) (C : String) : Prop := (∃ (t : Nat) (T : u_T) (N : Nat), gT G r = t ∧ t ≠ 0 ∧ CL[t]? = some (C, T, N)) ∨ ∃ i, r = kC κ i ∧ (i, C) ∈ OCS
theorem RV.t {r t : Nat} {C : String} {T : u_T} {N : Nat} (ht : gT G r = t) (h0 : t ≠ 0) (hC : CL[t]? = some (C, T, N)) : RV κ G r C := Or.inl ⟨t, T, N, ht, h0, hC⟩
theorem RV.c {i : Nat} {C : String} (h : (i, C) ∈ OCS) : RV κ G (kC κ i) C := Or.inr ⟨i, rfl, h⟩
theorem RV.cell {H : Heap} {p : Program} {s : State} {m : MethodId} {args : Array Value} {meth : Method} {c : Code} {locs : List Loc} {r : Nat} {C : String} (C0 : Cx κ M p s m args meth c) (hR : Rp κ G H) (hS : va_S (kF κ) s.heap H locs) (h : RV κ G r C) : ∃ cell : Cell, H[r]? = some cell ∧ cell.vm.isStatics = false ∧ s.vm.findClass C = some cell.cls := by
  rcases h with ⟨t, T, N, ht, h0, hC⟩ | ⟨i, rfl, h⟩
  · exact xrecv C0 hR ht h0 hC
  · have hO : va_O C (kC κ i) (kF κ) s s.heap := (va_O.moved C0.wm.alike (C0.1.2.2.2.2.2.1 _ h)).kept (fun q h1 _ => C0.od q h1)
    exact va_Orecv hO hS
theorem rm_ok {M' : XM} (hO : MOk M' n) {mc ms : Nat} : (rmX d a1 b1).frames + 1 ≤ (rmX (d + 1) mc ms).frames ∧ 8 + (mN M' + 11) + (rmX d a1 b1).locals ≤ (rmX (d + 1) mc ms).locals := by
  have := hO.2.2.1
  simp only [rmX]
  omega
theorem X_callV {r index : Nat} {C : String} {As : List Value} (q : Nat) (hd : decode (mB M) pc = .ok (.invokevirtual index, 3)) (hq : pc + 3 = q) (hN : mH M = none) (hO : MOk M' n) (hN' : mH M' = none) (w1 : Cond.methodLink (mO M) index (mY M') ∈ lw_all) (w2 : Cond.instanceMethod (mY M') ∈ lw_all) (w3 : Cond.selects C (mY M') (mY M') ∈ lw_all) (hcl : (mY M').cls = C) (hrv : RV κ G r C) (hst : stk = As.reverse ++ .ref r :: st) (hAs : As.length = n) (hcs : (st.map fun v => v.category).sum ≤ 8)
    (hL : entL (.ref r :: As) ++ List.replicate (mN M' - (entL (.ref r :: As)).length) none = L') (hfit : (lg_sl (.ref r :: As)).length ≤ mN M') (ha : a1 + a2 ≤ a) (hb : b1 + b2 ≤ b) (hx : X κ d M' 0 L' [] G a1 b1 (fun v G' => X κ (d + 1) M q L (v.toList ++ st) G' a2 b2 Φ Ψ) Ψ) : X κ (d + 1) M pc L stk G a b Φ Ψ := by
  subst hq
  subst hst
  intro p e s m args below meth c H locs cells slots mc ms ls C0 hR hS hl ha1 hb1
  have hM := X_met C0.1 hO hL hfit hx
  rw [mW_code hN'] at hM
  have hcode : Cond.code (mY M') (mB M') (mN M') (mR M') ∈ lw_all := by rw [← mW_code hN']; exact hO.2.2.2.1
  refine X_fin (a2 := a2) (b2 := b2) C0 hS hl hN (vx_runV (C := C) (As := As) ⟨C0.ex, C0.cd, C0.ml, C0.ow, C0.ws⟩ hM (cwV n C0.ws (lw_V w1 w2 w3 (by rw [← hcl]; exact hO.2.2.2.2.1) hcode) rfl rfl rfl ⟨hcl, hO.2.1⟩ (rm_ok hO)) ⟨PX_blind, hrv.cell C0 hR hS, fun U hU hW => ⟨rfl, State.WarmedH.trans C0.wm hW, by rw [hU]; exact hR⟩⟩ rfl hAs hl.1 rfl (lv_room hcs) hd ⟨show _ ≤ mc by omega, show _ ≤ ms by omega⟩) (by omega) (by omega) (fun r G' h => h)
theorem X_callS {index : Nat} {As : List Value} (q : Nat) (hd : decode (mB M) pc = .ok (.invokestatic index, 3)) (hq : pc + 3 = q) (hN : mH M = none) (hO : MOk M' n) (hN' : mH M' = none) (w1 : Cond.methodLink (mO M) index (mY M') ∈ lw_all) (w2 : Cond.static (mY M') ∈ lw_all) (hst : stk = As.reverse ++ st) (hAs : As.length = n) (hcs : (st.map fun v => v.category).sum ≤ 8)
    (hL : entL As ++ List.replicate (mN M' - (entL As).length) none = L') (hfit : (lg_sl As).length ≤ mN M') (ha : a1 + a2 ≤ a) (hb : b1 + b2 ≤ b) (hx : X κ d M' 0 L' [] G a1 b1 (fun v G' => X κ (d + 1) M q L (v.toList ++ st) G' a2 b2 Φ Ψ) Ψ) : X κ (d + 1) M pc L stk G a b Φ Ψ := by
  subst hq
  subst hst
  intro p e s m args below meth c H locs cells slots mc ms ls C0 hR hS hl ha1 hb1
  have hM := X_met C0.1 hO hL hfit hx
  rw [mW_code hN'] at hM
  have hcode : Cond.code (mY M') (mB M') (mN M') (mR M') ∈ lw_all := by rw [← mW_code hN']; exact hO.2.2.2.1
  refine X_fin (a2 := a2) (b2 := b2) C0 hS hl hN (vx_runS (As := As) ⟨C0.ex, C0.cd, C0.ml, C0.ow, C0.ws⟩ hM (va_cwS n C0.ws (lw_S w1 w2 hO.2.2.2.2.1 hcode) rfl rfl rfl hO.2.1 (rm_ok hO)) ⟨PX_blind, fun U hU hW => ⟨rfl, State.WarmedH.trans C0.wm hW, by rw [hU]; exact hR⟩⟩ rfl hAs hl.1 rfl (lv_room hcs) hd ⟨show _ ≤ mc by omega, show _ ≤ ms by omega⟩) (by omega) (by omega) (fun r G' h => h)
theorem X_callI {r index : Nat} {As : List Value} (q : Nat) (hd : decode (mB M) pc = .ok (.invokespecial index, 3)) (hq : pc + 3 = q) (hN : mH M = none) (hO : MOk M' n) (hN' : mH M' = none) (hR' : mR M' = none) (w1 : Cond.methodLink (mO M) index (mY M') ∈ lw_all) (w2 : Cond.instanceMethod (mY M') ∈ lw_all) (hnm : (mY M').name = "<init>") (hst : stk = As.reverse ++ .ref r :: st) (hAs : As.length = n) (hcs : (st.map fun v => v.category).sum ≤ 8)
    (hL : entL (.ref r :: As) ++ List.replicate (mN M' - (entL (.ref r :: As)).length) none = L') (hfit : (lg_sl (.ref r :: As)).length ≤ mN M') (ha : a1 + a2 ≤ a) (hb : b1 + b2 ≤ b) (hx : X κ d M' 0 L' [] G a1 b1 (fun v G' => X κ (d + 1) M q L (v.toList ++ st) G' a2 b2 Φ Ψ) Ψ) : X κ (d + 1) M pc L stk G a b Φ Ψ := by
  subst hq
  subst hst
  intro p e s m args below meth c H locs cells slots mc ms ls C0 hR hS hl ha1 hb1
  have hM := X_met C0.1 hO hL hfit hx
  rw [mW_code hN', hR'] at hM
  have hcode : Cond.code (mY M') (mB M') (mN M') none ∈ lw_all := by rw [← hR', ← mW_code hN']; exact hO.2.2.2.1
  refine X_fin (a2 := a2) (b2 := b2) C0 hS hl hN (vx_runI (As := As) ⟨C0.ex, C0.cd, C0.ml, C0.ow, C0.ws⟩ hM (cwI n C0.ws (lw_meth hcode) rfl rfl rfl (C0.ws _ hO.2.2.2.2.1) (C0.ws _ w1) (C0.ws _ w2) hnm hO.2.1 (rm_ok hO)) ⟨PX_blind, fun U hU hW => ⟨rfl, State.WarmedH.trans C0.wm hW, by rw [hU]; exact hR⟩⟩ rfl hAs hl.1 rfl (lv_room hcs) hd ⟨show _ ≤ mc by omega, show _ ≤ ms by omega⟩) (by omega) (by omega) (fun r G' h => h)
theorem X_callIN {r index : Nat} {host : String} {As : List Value} (q : Nat) (hd : decode (mB M) pc = .ok (.invokespecial index, 3)) (hq : pc + 3 = q) (hN : mH M = none) (hO : MOk M' n) (hN' : mH M' = none) (hR' : mR M' = none) (w1 : Cond.methodLinkNest (mO M) index (mY M') host ∈ lw_tbl) (w2 : Cond.instanceMethod (mY M') ∈ lw_all) (hnm : (mY M').name = "<init>") (hst : stk = As.reverse ++ .ref r :: st) (hAs : As.length = n) (hcs : (st.map fun v => v.category).sum ≤ 8)
    (hL : entL (.ref r :: As) ++ List.replicate (mN M' - (entL (.ref r :: As)).length) none = L') (hfit : (lg_sl (.ref r :: As)).length ≤ mN M') (ha : a1 + a2 ≤ a) (hb : b1 + b2 ≤ b) (hx : X κ d M' 0 L' [] G a1 b1 (fun v G' => X κ (d + 1) M q L (v.toList ++ st) G' a2 b2 Φ Ψ) Ψ) : X κ (d + 1) M pc L stk G a b Φ Ψ := by
  subst hq
  subst hst
  intro p e s m args below meth c H locs cells slots mc ms ls C0 hR hS hl ha1 hb1
  have hM := X_met C0.1 hO hL hfit hx
  rw [mW_code hN', hR'] at hM
  have hcode : Cond.code (mY M') (mB M') (mN M') none ∈ lw_all := by rw [← hR', ← mW_code hN']; exact hO.2.2.2.1
  have hnest := va_Nw.warmM C0.wm (va_Nw.of rfl (C0.1.2.2.1 _ w1))
  refine X_fin (a2 := a2) (b2 := b2) C0 hS hl hN (vx_runIN (As := As) ⟨C0.ex, C0.cd, C0.ml, C0.ow, C0.ws⟩ hM ⟨va_cnB n C0.ws (lw_meth hcode) rfl rfl rfl hnest (C0.ws _ hO.2.2.2.2.1) hO.2.1 (rm_ok hO), hnm, C0.ws _ w2⟩ ⟨PX_blind, fun U hU hW => ⟨rfl, State.WarmedH.trans C0.wm hW, by rw [hU]; exact hR⟩⟩ rfl hAs hl.1 rfl (lv_room hcs) hd ⟨show _ ≤ mc by omega, show _ ≤ ms by omega⟩) (by omega) (by omega) (fun r G' h => h)
theorem X_callSN {index : Nat} {host : String} {As : List Value} (q : Nat) (hd : decode (mB M) pc = .ok (.invokestatic index, 3)) (hq : pc + 3 = q) (hN : mH M = none) (hO : MOk M' n) (hN' : mH M' = none) (w1 : Cond.methodLinkNest (mO M) index (mY M') host ∈ lw_tbl) (w2 : Cond.static (mY M') ∈ lw_all) (hst : stk = As.reverse ++ st) (hAs : As.length = n) (hcs : (st.map fun v => v.category).sum ≤ 8)
    (hL : entL As ++ List.replicate (mN M' - (entL As).length) none = L') (hfit : (lg_sl As).length ≤ mN M') (ha : a1 + a2 ≤ a) (hb : b1 + b2 ≤ b) (hx : X κ d M' 0 L' [] G a1 b1 (fun v G' => X κ (d + 1) M q L (v.toList ++ st) G' a2 b2 Φ Ψ) Ψ) : X κ (d + 1) M pc L stk G a b Φ Ψ := by
  subst hq
  subst hst
  intro p e s m args below meth c H locs cells slots mc ms ls C0 hR hS hl ha1 hb1
  have hM := X_met C0.1 hO hL hfit hx
  rw [mW_code hN'] at hM
  have hcode : Cond.code (mY M') (mB M') (mN M') (mR M') ∈ lw_all := by rw [← mW_code hN']; exact hO.2.2.2.1
  have hnest := va_Nw.warmM C0.wm (va_Nw.of rfl (C0.1.2.2.1 _ w1))
  refine X_fin (a2 := a2) (b2 := b2) C0 hS hl hN (vx_runSN (As := As) ⟨C0.ex, C0.cd, C0.ml, C0.ow, C0.ws⟩ hM ⟨va_cnB n C0.ws (lw_meth hcode) rfl rfl rfl hnest (C0.ws _ hO.2.2.2.2.1) hO.2.1 (rm_ok hO), C0.ws _ w2, trivial⟩ ⟨PX_blind, fun U hU hW => ⟨rfl, State.WarmedH.trans C0.wm hW, by rw [hU]; exact hR⟩⟩ rfl hAs hl.1 rfl (lv_room hcs) hd ⟨show _ ≤ mc by omega, show _ ≤ ms by omega⟩) (by omega) (by omega) (fun r G' h => h)
/-- inherited or overriding: the reference names x, the receiver's class selects M' -/
theorem X_callU {x : MethodName} {r index : Nat} {C owner : String} {As : List Value} (q : Nat) (hd : decode (mB M) pc = .ok (.invokevirtual index, 3)) (hq : pc + 3 = q) (hN : mH M = none) (hO : MOk M' n) (hN' : mH M' = none) (w1 : Cond.methodLink (mO M) index x ∈ lw_all) (w2 : Cond.sameMethod x.cls owner x.name x.desc ∈ lw_all) (w3 : Cond.selects C x (mY M') ∈ lw_all) (w4 : Cond.instanceMethod (mY M') ∈ lw_all)
    (hdc : (mY M' = ⟨owner, x.name, x.desc⟩) ∨ (Cond.declares ⟨owner, x.name, x.desc⟩ ∈ lw_tbl) ∨ (Cond.instanceMethod ⟨owner, x.name, x.desc⟩ ∈ lw_all ∧ ∃ b0 m0 r0, Cond.code ⟨owner, x.name, x.desc⟩ b0 m0 r0 ∈ lw_all)) (ho : owner ≠ "java/lang/invoke/MethodHandle" ∧ owner ≠ "java/lang/invoke/VarHandle") (hds : x.desc = (mY M').desc) (hrv : RV κ G r C) (hst : stk = As.reverse ++ .ref r :: st) (hAs : As.length = n) (hcs : (st.map fun v => v.category).sum ≤ 8)
    (hL : entL (.ref r :: As) ++ List.replicate (mN M' - (entL (.ref r :: As)).length) none = L') (hfit : (lg_sl (.ref r :: As)).length ≤ mN M') (ha : a1 + a2 ≤ a) (hb : b1 + b2 ≤ b) (hx : X κ d M' 0 L' [] G a1 b1 (fun v G' => X κ (d + 1) M q L (v.toList ++ st) G' a2 b2 Φ Ψ) Ψ) : X κ (d + 1) M pc L stk G a b Φ Ψ := by
  subst hq
  subst hst
  intro p e s m args below meth c H locs cells slots mc ms ls C0 hR hS hl ha1 hb1
  have hM := X_met C0.1 hO hL hfit hx
  rw [mW_code hN'] at hM
  have hcode : Cond.code (mY M') (mB M') (mN M') (mR M') ∈ lw_all := by rw [← mW_code hN']; exact hO.2.2.2.1
  have hdecl : va_Decl s ⟨owner, x.name, x.desc⟩ := by
    rcases hdc with e1 | e1 | ⟨e1, b0, m0, r0, e2⟩
    · rw [← e1]; exact va_Decl.of (C0.ws _ w4) (C0.ws _ hcode)
    · exact va_Decl.abs (va_Nw.warmD C0.wm (va_Nw.of rfl (C0.1.2.2.1 _ e1)))
    · exact va_Decl.of (C0.ws _ e1) (C0.ws _ e2)
  have hlen : ∀ sig, parseMethodDescriptor x.desc = some sig → n = sig.parameters.length := by
    intro sig h
    have h2 := hO.2.1.2.2
    rw [← hds, h] at h2
    exact (Option.some.inj h2).symm
  have hcu : va_CU (rmX (d + 1) mc ms) s args (mO M) C owner index x (mY M') (mB M') (mN M') (mR M') (Cond.code (mY M') (mB M') (mN M') (mR M') :: lw_all) (rmX d a1 b1) a1 b1 n :=
    ⟨⟨rfl, rfl, (rm_ok hO).1, (rm_ok hO).2, pay_in C0.ws (lw_meth hcode), List.mem_cons_self⟩, C0.ws _ hcode, C0.ws _ hO.2.2.2.2.1, ho, hlen, C0.ws _ w1, C0.ws _ w2, hdecl, C0.ws _ w3, C0.ws _ w4⟩
  refine X_fin (a2 := a2) (b2 := b2) C0 hS hl hN (vx_runU (C := C) (As := As) ⟨C0.ex, C0.cd, C0.ml, C0.ow, C0.ws⟩ hM hcu ⟨PX_blind, hrv.cell C0 hR hS, fun U hU hW => ⟨rfl, State.WarmedH.trans C0.wm hW, by rw [hU]; exact hR⟩⟩ rfl hAs hl.1 rfl (lv_room hcs) hd ⟨show _ ≤ mc by omega, show _ ≤ ms by omega⟩) (by omega) (by omega) (fun r G' h => h)
/-- through an interface -/
theorem X_callF {x : MethodName} {t r index cnt : Nat} {C : String} {T : u_T} {N : Nat} {As : List Value} (q : Nat) (hd : decode (mB M) pc = .ok (.invokeinterface index cnt, 5)) (hq : pc + 5 = q) (hN : mH M = none) (hO : MOk M' n) (hN' : mH M' = none) (w1 : Cond.methodLink (mO M) index x ∈ lw_all) (w2 : Cond.selects C x (mY M') ∈ lw_all) (w3 : Cond.instanceMethod (mY M') ∈ lw_all)
    (w4 : Cond.declares x ∈ lw_tbl) (w5 : Cond.interfaceMethod x.cls x.cls x.name x.desc ∈ lw_tbl) (w6 : Cond.publicMethod (mY M') ∈ lw_tbl) (w7 : Cond.unhidden C x.name x.desc ∈ lw_tbl) (w8 : Cond.castable C x.cls ∈ lw_tbl) (ho : x.cls ≠ "java/lang/invoke/MethodHandle" ∧ x.cls ≠ "java/lang/invoke/VarHandle") (hds : x.desc = (mY M').desc) (hC : CL[t]? = some (C, T, N)) (h0 : t ≠ 0) (ht : gT G r = t) (hst : stk = As.reverse ++ .ref r :: st) (hAs : As.length = n) (hcs : (st.map fun v => v.category).sum ≤ 8)
    (hL : entL (.ref r :: As) ++ List.replicate (mN M' - (entL (.ref r :: As)).length) none = L') (hfit : (lg_sl (.ref r :: As)).length ≤ mN M') (ha : a1 + a2 ≤ a) (hb : b1 + b2 ≤ b) (hx : X κ d M' 0 L' [] G a1 b1 (fun v G' => X κ (d + 1) M q L (v.toList ++ st) G' a2 b2 Φ Ψ) Ψ) : X κ (d + 1) M pc L stk G a b Φ Ψ := by
  subst hq
  subst hst
  intro p e s m args below meth c H locs cells slots mc ms ls C0 hR hS hl ha1 hb1
  have hM := X_met C0.1 hO hL hfit hx
  rw [mW_code hN'] at hM
  have hcode : Cond.code (mY M') (mB M') (mN M') (mR M') ∈ lw_all := by rw [← mW_code hN']; exact hO.2.2.2.1
  have hF : va_Fw C x (mY M') s := va_Fw.moved ho C0.wm.alike (va_Fw.of (C0.1.2.2.1 _ w4) (C0.1.2.2.1 _ w5) (C0.1.2.2.1 _ w6) (C0.1.2.2.1 _ w7) (C0.1.2.2.1 _ w8))
  have hlen : ∀ sig, parseMethodDescriptor x.desc = some sig → n = sig.parameters.length := by
    intro sig h
    have h2 := hO.2.1.2.2
    rw [← hds, h] at h2
    exact (Option.some.inj h2).symm
  have hci : va_CI (rmX (d + 1) mc ms) s args (mO M) C index x (mY M') (mB M') (mN M') (mR M') (Cond.code (mY M') (mB M') (mN M') (mR M') :: lw_all) (rmX d a1 b1) a1 b1 n :=
    ⟨⟨rfl, rfl, (rm_ok hO).1, (rm_ok hO).2, pay_in C0.ws (lw_meth hcode), List.mem_cons_self⟩, C0.ws _ w1, va_any rfl hF.1, va_any rfl hF.2.1, C0.ws _ w2, C0.ws _ w3, va_any rfl hF.2.2.1, va_any rfl hF.2.2.2.1, va_any rfl hF.2.2.2.2, C0.ws _ hO.2.2.2.2.1, C0.ws _ hcode, ho, hlen⟩
  refine X_fin5 (a2 := a2) (b2 := b2) C0 hS hl hN (vx_runF (C := C) (As := As) (C0.kn.1.1 t _ hC).2 ⟨C0.ex, C0.cd, C0.ml, C0.ow, C0.ws⟩ hM hci ⟨PX_blind, xrecv C0 hR ht h0 hC, fun U hU hW => ⟨rfl, State.WarmedH.trans C0.wm hW, by rw [hU]; exact hR⟩⟩ rfl hAs hl.1 rfl (lv_room hcs) hd ⟨show _ ≤ mc by omega, show _ ≤ ms by omega⟩) (by omega) (by omega) (fun r G' h => h)
/-- super.m(..) -/
theorem X_callSU {t r index : Nat} {C : String} {T : u_T} {N : Nat} {As : List Value} (q : Nat) (hd : decode (mB M) pc = .ok (.invokespecial index, 3)) (hq : pc + 3 = q) (hN : mH M = none) (hO : MOk M' n) (hN' : mH M' = none) (w1 : Cond.methodLink (mO M) index (mY M') ∈ lw_all) (w2 : Cond.sameMethod (mY M').cls (mY M').cls (mY M').name (mY M').desc ∈ lw_all) (w3 : Cond.superclass (mO M) (mY M').cls ∈ lw_all) (w4 : Cond.instanceMethod (mY M') ∈ lw_all) (hno : (mY M').name ≠ "<init>") (hC : CL[t]? = some (C, T, N)) (h0 : t ≠ 0) (ht : gT G r = t) (hst : stk = As.reverse ++ .ref r :: st) (hAs : As.length = n) (hcs : (st.map fun v => v.category).sum ≤ 8)
    (hL : entL (.ref r :: As) ++ List.replicate (mN M' - (entL (.ref r :: As)).length) none = L') (hfit : (lg_sl (.ref r :: As)).length ≤ mN M') (ha : a1 + a2 ≤ a) (hb : b1 + b2 ≤ b) (hx : X κ d M' 0 L' [] G a1 b1 (fun v G' => X κ (d + 1) M q L (v.toList ++ st) G' a2 b2 Φ Ψ) Ψ) : X κ (d + 1) M pc L stk G a b Φ Ψ := by
  subst hq
  subst hst
  intro p e s m args below meth c H locs cells slots mc ms ls C0 hR hS hl ha1 hb1
  have hM := X_met C0.1 hO hL hfit hx
  rw [mW_code hN'] at hM
  have hcode : Cond.code (mY M') (mB M') (mN M') (mR M') ∈ lw_all := by rw [← mW_code hN']; exact hO.2.2.2.1
  have hlen : ∀ sig, parseMethodDescriptor (mY M').desc = some sig → n = sig.parameters.length := by
    intro sig h
    have h2 := hO.2.1.2.2
    rw [h] at h2
    exact (Option.some.inj h2).symm
  have hcs' : va_CS (rmX (d + 1) mc ms) s args (mO M) index (mY M') (mB M') (mN M') (mR M') (Cond.code (mY M') (mB M') (mN M') (mR M') :: lw_all) (rmX d a1 b1) a1 b1 n :=
    ⟨⟨rfl, rfl, (rm_ok hO).1, (rm_ok hO).2, pay_in C0.ws (lw_meth hcode), List.mem_cons_self⟩, C0.ws _ w1, C0.ws _ w2, C0.ws _ w3, C0.ws _ w4, C0.ws _ hO.2.2.2.2.1, C0.ws _ hcode, hno, hlen⟩
  refine X_fin (a2 := a2) (b2 := b2) C0 hS hl hN (vx_runSU (C := C) (As := As) (C0.kn.1.1 t _ hC).2 ⟨C0.ex, C0.cd, C0.ml, C0.ow, C0.ws⟩ hM hcs' ⟨PX_blind, xrecv C0 hR ht h0 hC, fun U hU hW => ⟨rfl, State.WarmedH.trans C0.wm hW, by rw [hU]; exact hR⟩⟩ rfl hAs hl.1 rfl (lv_room hcs) hd ⟨show _ ≤ mc by omega, show _ ≤ ms by omega⟩) (by omega) (by omega) (fun r G' h => h)
theorem X_objInit {r index : Nat} (q : Nat) (hd : decode (mB M) pc = .ok (.invokespecial index, 3)) (hq : pc + 3 = q) (w1 : Cond.methodLink (mO M) index Lib.objectInit ∈ lw_all) (w2 : Cond.instanceMethod Lib.objectInit ∈ lw_all) (w3 : Cond.code Lib.objectInit ⟨#[0xb1]⟩ 1 none ∈ lw_all) (hcs : (st.map fun v => v.category).sum ≤ 8) (hx : X κ (d + 1) M q L st G a b Φ Ψ) : X κ (d + 1) M pc L (.ref r :: st) G a b Φ Ψ := by
  subst hq
  intro p e s m args below meth c H locs cells slots mc ms ls C0 hR hS hl ha1 hb1
  refine W.objInit C0.ex C0.cd C0.ow (C0.ws _ w1) (C0.ws _ w2) (C0.ws _ w3) rfl (by rw [C0.ml]; exact hl.1) rfl hd (show 1 ≤ d + 1 by omega) ?_ (hx p e s m args below meth c H locs cells slots mc ms ls C0 hR hS hl ha1 hb1)
  show 2 * 0 + _ + 12 ≤ 40 * (d + 1) + 20
  omega
end XC

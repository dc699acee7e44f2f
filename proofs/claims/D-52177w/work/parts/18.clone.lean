/-! ===== CORE 8: a copy of a row of bytes ===== -/
section XCL
variable {κ : Kx} {d : Nat} {M : XM} {pc : Nat} {L : List (Option Value)} {st : List Value} {G : Gt} {a b : Nat} {Φ : Option Value → Gt → Prop} {Ψ : String → Nat → Gt → Prop}
theorem X_clone {r index a' b' : Nat} (q : Nat) (hd : decode (mB M) pc = .ok (.invokevirtual index, 3)) (hq : pc + 3 = q) (w1 : Cond.methodLink (mO M) index ⟨"[B", "clone", "()Ljava/lang/Object;"⟩ ∈ lw_all) (w2 : Cond.sameMethod "[B" "java/lang/Object" "clone" "()Ljava/lang/Object;" ∈ lw_all) (w3 : Cond.native ⟨"java/lang/Object", "clone", "()Ljava/lang/Object;"⟩ ∈ lw_all) (w4 : Cond.instanceMethod ⟨"java/lang/Object", "clone", "()Ljava/lang/Object;"⟩ ∈ lw_all) (w5 : Cond.selects "[B" ⟨"[B", "clone", "()Ljava/lang/Object;"⟩ ⟨"java/lang/Object", "clone", "()Ljava/lang/Object;"⟩ ∈ lw_all) (w6 : Cond.castable "[B" "java/lang/Cloneable" ∈ lw_tbl)
    (ht : gT G r = 101) (hcs : (st.map fun v => v.category).sum ≤ 8) (ha : a' + 1 ≤ a) (hb : b' + gL G r ≤ b)
    (kk : ∀ o, gT G o = 0 → kB κ ≤ o → X κ (d + 1) M q L (.ref o :: st) (wI (nw G o 101 (gL G r)) o (eI G r)) a' b' Φ Ψ) : X κ (d + 1) M pc L (.ref r :: st) G a b Φ Ψ := by
  subst hq
  intro p e s m args below meth c H locs cells slots mc ms ls C0 hR hS hl ha1 hb1
  obtain ⟨hc0, hl0⟩ := ar_int hR ht (Or.inr rfl)
  have hfb := (hR.ar ht (by omega)).2.2.2 rfl
  have hAr := C0.kn.2.1 101 (by omega) (by omega)
  have hnm : s.vm.findClass "[B" = some ((kD κ).1 101) := C0.kn.2.2 101 (by omega) (by omega)
  have hcl := va_Nw.use (A := args) rfl (va_Nw.warmC C0.wm (va_Nw.of rfl (C0.1.2.2.1 _ w6)))
  obtain ⟨c0, t0', f1, f2, f3⟩ := Cond.castable_spec hcl
  cases hnm.symm.trans f1
  have hfree : gT G H.size = 0 := by
    by_cases h : gT G H.size = 0
    · exact h
    · exact absurd (hR.lt h) (Nat.lt_irrefl _)
  generalize hx : vp_cell ((kD κ).1 101) (gL G r, .inl (eI G r)) = x at hc0
  have e0 : x = arrV ((kD κ).1 101) (gL G r) (fun j => .int (eI G r j)) := hx.symm
  have hsz : x.slots.size = gL G r := by rw [e0]; exact arrV_size _ _ _
  have hvm0 : x.vm = .none := by rw [e0]; rfl
  have hcl0 : x.cls = (kD κ).1 101 := by rw [e0]; rfl
  have hce : ({ cls := x.cls, slots := x.slots } : Cell) = x := by rw [e0]; rfl
  intro T hT Y
  obtain ⟨-, kA, hkA, comp, hkind⟩ := State.isArrayOf_alike Y.warmed.alike (hAr 0 (fun _ => .null))
  obtain ⟨-, kS', hkS, compS, hkindS⟩ := hAr 0 (fun _ => .null)
  obtain ⟨vm', X', st9⟩ := Y.cloneArray C0.ex C0.ow (C0.ws _ w1) (C0.ws _ w2) (C0.ws _ w3) (C0.ws _ w4) (C0.ws _ w5) (a := r) (cell := x) (by rw [hT]; exact hc0) (fun k h => by rw [hvm0] at h; cases h) (by rw [hvm0]; exact fun h => by cases h) (by rw [hcl0]; exact hnm) f2 (by rw [hcl0]; exact f3)
    (fun i v hv => by
      rw [hcl0]
      have hk' : T.vm.classes[(kD κ).1 101]? = some kA := hkA
      rw [e0] at hv
      have hlt : i < gL G r := by
        have h9 := (Array.getElem?_eq_some_iff.mp hv).1
        rw [arrV_size] at h9
        exact h9
      rw [arrV_read _ _ hlt] at hv
      cases hv
      have := hfb i hlt
      simpa [State.fitsSlot, State.slotType?, hk', hkind, aTy] using this)
    (g := F0 m pc ls (.ref r :: st)) rfl (by rw [C0.ml]; exact hl.1) rfl (by rw [C0.cd]; exact hd) (show 1 ≤ d + 1 by omega) (by show 2 * 0 + _ + 14 ≤ 40 * (d + 1) + 20; have : ((F0 m pc ls (.ref r :: st)).stack.map fun v => v.category).sum = 1 + (st.map fun v => v.category).sum := rfl; omega) (show cells + 1 ≤ mc by omega) (show slots + _ ≤ ms by rw [hsz]; omega) (hloader := by rw [hcl0]; exact Vm.clonesLoader_of_array hkS hkindS)
  rw [hce, hsz] at X'
  generalize hH1 : H.push x = H1
  have z1 : H1.size = H.size + 1 := by rw [← hH1, Array.size_push]
  have e1 : H1[H.size]? = some x := by rw [← hH1, Array.getElem?_push_size]
  have o1 : ∀ q : Nat, q < H.size → H1[q]? = H[q]? := fun q hq => by rw [← hH1, Array.getElem?_push, if_neg (Nat.ne_of_lt hq)]
  have hR1 : Rp κ (wI (nw G H.size 101 (gL G r)) H.size (eI G r)) H1 := by
    refine hR.chg hR.2.1 (by omega) (fun y hy _ => o1 y hy) (fun y hy => ?_) ⟨fun h => ?_, fun h => ?_⟩
    · obtain ⟨g1, g2, g3, g4, g5, g6, g7⟩ := nw_agr (G := G) (t := 101) (n := gL G r) y hy
      exact ⟨g1, g2, g3, g4, fun i => by rw [eI_wI, if_neg hy]; exact g5 i, g6, g7⟩
    · rw [gT_wI, gT_nw, if_pos rfl] at h; omega
    · have f0 : gT (wI (nw G H.size 101 (gL G r)) H.size (eI G r)) H.size = 101 := by rw [gT_wI, gT_nw, if_pos rfl]
      have f4 : gL (wI (nw G H.size 101 (gL G r)) H.size (eI G r)) H.size = gL G r := by rw [gL_wI, gL_nw, if_pos rfl]
      have f5 : eI (wI (nw G H.size 101 (gL G r)) H.size (eI G r)) H.size = eI G r := by funext i; rw [eI_wI, if_pos rfl]
      rw [f0, f4, f5]
      refine ⟨by omega, ?_, hl0, fun _ i hi => hfb i hi⟩
      rw [e1, gC, if_neg (by omega), if_neg (by omega), f4, f5, hx]
  obtain ⟨t, b1, b2⟩ := kk H.size hfree hR.2.1 p e s m args below meth c H1 locs (cells + 1) (slots + gL G r) mc ms ls C0 hR1 (hS_new hS (by omega) o1) hl (by omega) (by omega) ((T.setVm vm').pushCell x) (by rw [← hH1, ← hT]; rfl) X'
  refine ⟨t, st9 t ?_, b2⟩
  rw [hce]
  rw [hT]
  exact b1
theorem X_castB {o index : Nat} (q : Nat) (hd : decode (mB M) pc = .ok (.checkcast index, 3)) (hq : pc + 3 = q) (ht : gT G o = 101) (hw : Cond.classLink (mO M) index "[B" ∈ lw_all) (kk : X κ d M q L (.ref o :: st) G a b Φ Ψ) : X κ d M pc L (.ref o :: st) G a b Φ Ψ := by
  subst hq
  intro p e s m args below meth c H locs cells slots mc ms ls C0 hR hS hl ha hb
  obtain ⟨h1, h2⟩ := ar_int hR ht (Or.inr rfl)
  have hnm : s.vm.findClass "[B" = some ((kD κ).1 101) := C0.kn.2.2 101 (by omega) (by omega)
  exact va_castE C0.ex C0.cd C0.ow (C0.ws _ hw) ⟨_, h1, rfl, hnm⟩ hd (kk p e s m args below meth c H locs cells slots mc ms ls C0 hR hS hl ha hb)
end XCL
/-! chars and bytes -/
def ch (x : Int32) : Int32 := x &&& 255
theorem ch_b (x : Int32) : (ch x).toBitVec = x.toBitVec &&& 255#32 := rfl
theorem ch_i2c (x : Int32) : ((ch x).toUInt32 % 65536).toInt32 = ch x := by
  apply Int32.toBitVec_inj.mp
  show ((ch x).toUInt32 % 65536).toBitVec = _
  rw [UInt32.toBitVec_mod]
  have h : (ch x).toUInt32.toBitVec = x.toBitVec &&& 255#32 := rfl
  rw [h, ch_b]
  apply BitVec.eq_of_toNat_eq
  have h2 : (x.toBitVec &&& 255#32).toNat ≤ 255 := by
    rw [BitVec.toNat_and]; exact Nat.and_le_right
  rw [BitVec.toNat_umod]
  exact Nat.mod_eq_of_lt (Nat.lt_of_le_of_lt h2 (by decide))
/-! a private method of a super class, called on an object of class C -/
theorem sel_priv {args : Array Value} {s : State} {C C9 : String} {c : ClassId} {y x9 y9 : MethodName} (hc : s.vm.findClass C = some c) (h2 : (Cond.instanceMethod y).before args s = true) (h3 : (Cond.privateMethod y).before args s = true) (h9 : (Cond.selects C9 x9 y9).before args s = true) (hcl : y9.cls = y.cls) (hy : y.cls ≠ "java/lang/invoke/MethodHandle" ∧ y.cls ≠ "java/lang/invoke/VarHandle") : (Cond.selects C y y).before args s = true := by
  obtain ⟨mk, methM, hnamed, hmethM, -, -⟩ := Cond.instanceMethod_spec h2
  have hp := Cond.privateMethod_at h3 mk methM hnamed hmethM
  obtain ⟨c2, r2, m2, -, -, q3, -, kP, hkP, hkPi⟩ := Cond.selects_spec h9
  have e1 := findClass_of_methodNamed hnamed
  have e2 := findClass_of_methodNamed q3
  rw [hcl] at e2
  have e5 : m2.cls = mk.cls := (Option.some.inj (e1.symm.trans e2)).symm
  rw [e5] at hkP
  have e3 := State.methodFound?_of_named hnamed hy
  have e4 : selectMethod {} s.vm c mk = .method mk := selectMethod_private hmethM hp
  simp [Cond.before, Cond.holds, Cond.value, hc, e3, hnamed, e4, hkP, hkPi]
section XP
variable {κ : Kx} {d : Nat} {M M' : XM} {pc : Nat} {L L' : List (Option Value)} {st stk : List Value} {G : Gt} {a b a1 b1 a2 b2 n : Nat} {Φ : Option Value → Gt → Prop} {Ψ : String → Nat → Gt → Prop}
theorem X_callP {r index : Nat} {C C9 : String} {x9 y9 : MethodName} {As : List Value} (q : Nat) (hd : decode (mB M) pc = .ok (.invokevirtual index, 3)) (hq : pc + 3 = q) (hN : mH M = none) (hO : MOk M' n) (hN' : mH M' = none) (w1 : Cond.methodLink (mO M) index (mY M') ∈ lw_all) (w2 : Cond.instanceMethod (mY M') ∈ lw_all) (w3 : Cond.privateMethod (mY M') ∈ lw_tbl) (w9 : Cond.selects C9 x9 y9 ∈ lw_all) (hcl : y9.cls = (mY M').cls) (hrv : RV κ G r C) (hst : stk = As.reverse ++ .ref r :: st) (hAs : As.length = n) (hcs : (st.map fun v => v.category).sum ≤ 8)
    (hL : entL (.ref r :: As) ++ List.replicate (mN M' - (entL (.ref r :: As)).length) none = L') (hfit : (lg_sl (.ref r :: As)).length ≤ mN M') (ha : a1 + a2 ≤ a) (hb : b1 + b2 ≤ b) (hx : X κ d M' 0 L' [] G a1 b1 (fun v G' => X κ (d + 1) M q L (v.toList ++ st) G' a2 b2 Φ Ψ) Ψ) : X κ (d + 1) M pc L stk G a b Φ Ψ := by
  subst hq
  subst hst
  intro p e s m args below meth c H locs cells slots mc ms ls C0 hR hS hl ha1 hb1
  have hM := X_met C0.1 hO hL hfit hx
  rw [mW_code hN'] at hM
  have hcode : Cond.code (mY M') (mB M') (mN M') (mR M') ∈ lw_all := by rw [← mW_code hN']; exact hO.2.2.2.1
  have hcell := hrv.cell C0 hR hS
  obtain ⟨cl, -, -, hfc⟩ := hcell
  have hpr : (Cond.privateMethod (mY M')).before args s = true := Cond.privateMethod_warm C0.wm (C0.1.2.2.1 _ w3)
  have hsel : (Cond.selects C (mY M') (mY M')).before args s = true := sel_priv hfc (C0.ws _ w2) hpr (C0.ws _ w9) hcl ⟨hO.2.1.1, hO.2.1.2.1⟩
  refine X_fin (a2 := a2) (b2 := b2) C0 hS hl hN (vx_runV (C := C) (As := As) ⟨C0.ex, C0.cd, C0.ml, C0.ow, C0.ws⟩ hM ⟨callB_of n C0.ws (lw_meth hcode) rfl rfl rfl (C0.ws _ hO.2.2.2.2.1) (C0.ws _ w1) hO.2.1 (rm_ok hO), C0.ws _ w2, hsel⟩ ⟨PX_blind, hrv.cell C0 hR hS, fun U hU hW => ⟨rfl, State.WarmedH.trans C0.wm hW, by rw [hU]; exact hR⟩⟩ rfl hAs hl.1 rfl (lv_room hcs) hd ⟨show _ ≤ mc by omega, show _ ≤ ms by omega⟩) (by omega) (by omega) (fun r G' h => h)
end XP

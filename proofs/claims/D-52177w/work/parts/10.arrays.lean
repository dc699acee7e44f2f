/-! ===== CORE 4: new objects, arrays, casts, arraycopy ===== -/
section XA
variable {κ : Kx} {d : Nat} {M : XM} {pc : Nat} {L : List (Option Value)} {st : List Value} {G : Gt} {a b : Nat} {Φ : Option Value → Gt → Prop} {Ψ : String → Nat → Gt → Prop}
def isV : FieldType → Bool
  | .long => false
  | .double => false
  | _ => true
theorem CL_dv : ∀ (t : Nat) (r : vw_C), CL[t]? = some r → ∀ k, k < r.2.2 → isV (tyF t k) = true := by
  intro t r h
  have hl : t < 31 := (List.getElem?_eq_some_iff.mp h).1
  rcases t with _ | _ | _ | _ | _ | _ | _ | _ | _ | _ | _ | _ | _ | _ | _ | _ | _ | _ | _ | _ | _ | _ | _ | _ | _ | _ | _ | _ | _ | _ | _ | t
  all_goals first | (cases h; decide +kernel) | omega
theorem vOf_0 {ty : FieldType} (h : isV ty = true) : vOf ty 0 none = defaultValue ty := by
  cases ty <;> first | rfl | (simp [isV] at h)
theorem nw_agr {o t n : Nat} : ∀ q, q ≠ o → agr (nw G o t n) G q := fun q hq =>
  ⟨by rw [gT_nw, if_neg hq], fun c k => by rw [gI_nw, if_neg hq], fun c k => by rw [gR_nw, if_neg hq], by rw [gL_nw, if_neg hq], fun i => by rw [eI_nw, if_neg hq], fun i => by rw [eJ_nw, if_neg hq], fun i => by rw [eR_nw, if_neg hq]⟩
theorem hS_new {H0 H H1 : Heap} {locs : List Loc} {A : Nat → Prop} (hS : va_S A H0 H locs) (hz : H.size ≤ H1.size) (o1 : ∀ q, q < H.size → H1[q]? = H[q]?) : va_S A H0 H1 locs :=
  ⟨Nat.le_trans hS.1 hz, fun x h1 h2 => (o1 x (Nat.lt_of_lt_of_le h1 hS.1)).trans (hS.2.1 x h1 h2), hS.2.2⟩
theorem X_new {t index a' b' : Nat} {C : String} {T : u_T} {N : Nat} (q : Nat) (hd : decode (mB M) pc = .ok (.new index, 3)) (hq : pc + 3 = q) (hC : CL[t]? = some (C, T, N)) (h0 : t ≠ 0) (hl1 : Cond.classLink (mO M) index C ∈ lw_all) (hl2 : Cond.instantiable C N ∈ lw_all) (hl3 : Cond.initialized C ∈ lw_all) (ha : a' + 1 ≤ a) (hb : b' + N ≤ b)
    (kk : ∀ o, gT G o = 0 → kB κ ≤ o → X κ d M q L (.ref o :: st) (nw G o t 0) a' b' Φ Ψ) : X κ d M pc L st G a b Φ Ψ := by
  subst hq
  intro p e s m args below meth c H locs cells slots mc ms ls C0 hR hS hl ha1 hb1
  have hlt : t < 31 := (List.getElem?_eq_some_iff.mp hC).1
  have hKn := C0.kn.1.1 t _ hC
  refine W.newcK C0.ex C0.cd C0.ow (C0.ws _ hl1) (C0.ws _ hl2) (C0.ws _ hl3) rfl hd (show cells + 1 ≤ mc by omega) (show slots + N ≤ ms by omega) hKn.2.1 rfl fun H1 kC hkC e1 z1 o1 => ?_
  have hfree : gT G H.size = 0 := by
    by_cases h : gT G H.size = 0
    · exact h
    · exact absurd (hR.lt h) (Nat.lt_irrefl _)
  refine kk H.size hfree hR.2.1 p e s m args below meth c H1 locs (cells + 1) (slots + N) mc ms ls C0 ?_ (hS_new hS (by omega) o1) hl (by omega) (by omega)
  refine hR.chg hR.2.1 (by omega) (fun x hx _ => o1 x hx) nw_agr ⟨fun _ => ?_, fun h => ?_⟩
  · rw [gT_nw, if_pos rfl]
    refine ⟨_, hC, (u_born (tyF t) C0.ws (CL_in t _ hC) hKn hkC e1 (CL_ty t _ hC)).to fun j hj => ?_⟩
    simp only [gV, gI_nw, gR_nw, if_true]
    exact (vOf_0 (CL_dv t _ hC j hj)).symm
  · rw [gT_nw, if_pos rfl] at h
    omega
/-- a new array of a primitive kind -/
def nwK (aty : ArrayType) : Nat := match aty with
  | .int => 100
  | .byte => 101
  | .long => 102
  | _ => 0
theorem X_newa {aty : ArrayType} {t a' b' : Nat} {x : Int32} (n q : Nat) (hd : decode (mB M) pc = .ok (.newarray aty, 2)) (hq : pc + 2 = q) (hw : Cond.arrayClass (newarray.typeOf aty) ∈ lw_all) (ht : nwK aty = t) (h0 : t ≠ 0) (hx : x = nI n) (hn : n ≤ 67108864) (ha : a' + 1 ≤ a) (hb : b' + n ≤ b)
    (kk : ∀ o, gT G o = 0 → kB κ ≤ o → X κ d M q L (.ref o :: st) (nw G o t n) a' b' Φ Ψ) : X κ d M pc L (.int x :: st) G a b Φ Ψ := by
  subst hq
  intro p e s m args below meth c H locs cells slots mc ms ls C0 hR hS hl ha1 hb1
  have hfree : gT G H.size = 0 := by
    by_cases h : gT G H.size = 0
    · exact h
    · exact absurd (hR.lt h) (Nat.lt_irrefl _)
  have hcl : (nI n).toNatClampNeg = n := nI_clamp (by omega)
  have hpos : ¬ x < 0 := by rw [hx]; exact nI_pos (by omega)
  have fin : ∀ (H1 : Heap) (cA : ClassId), cA = (kD κ).1 t → H1[H.size]? = some (arrV cA n (fun _ => defaultValue (newarray.typeOf aty))) → H1.size = H.size + 1 → (∀ q, q < H.size → H1[q]? = H[q]?) → Rp κ (nw G H.size t n) H1 := by
    intro H1 cA hcA e1 z1 o1
    have hta : 100 ≤ t ∧ t < 103 := by subst ht; cases aty <;> simp [nwK] at h0 ⊢
    refine hR.chg hR.2.1 (by omega) (fun x hx _ => o1 x hx) nw_agr ⟨fun h => ?_, fun h => ?_⟩
    · rw [gT_nw, if_pos rfl] at h; omega
    · rw [gT_nw, if_pos rfl, gL_nw, if_pos rfl]
      refine ⟨by omega, ?_, by omega, fun _ i _ => by rw [eI_nw, if_pos rfl]; rfl⟩
      rw [e1, hcA]
      have f1 : ∀ t', eI (nw G H.size t' n) H.size = fun _ => 0 := fun t' => by funext i; rw [eI_nw, if_pos rfl]
      have f2 : ∀ t', eJ (nw G H.size t' n) H.size = fun _ => 0 := fun t' => by funext i; rw [eJ_nw, if_pos rfl]
      subst ht
      cases aty <;> simp [nwK] at h0 <;> simp [gC, nwK, f1, f2, gL_nw] <;> rfl
  refine va_newaK C0.ex C0.cd (C0.ws _ hw) rfl hd rfl hpos (by rw [hx]; exact hcl) (by cases aty <;> simp [newarray.typeOf, componentBytes] <;> omega) (show cells + 1 ≤ mc by omega) (show slots + n ≤ ms by omega) rfl fun H1 cA e1 z1 o1 hAr hNm => ?_
  have hcA : cA = (kD κ).1 t := by
    have hra := C0.kn.2.2
    subst ht
    cases aty <;> simp [nwK] at h0
    · exact Option.some.inj (hNm.symm.trans (hra 101 (by omega) (by omega)))
    · exact Option.some.inj (hNm.symm.trans (hra 100 (by omega) (by omega)))
    · exact Option.some.inj (hNm.symm.trans (hra 102 (by omega) (by omega)))
  exact kk H.size hfree hR.2.1 p e s m args below meth c H1 locs (cells + 1) (slots + n) mc ms ls C0 (fin H1 cA hcA e1 z1 o1) (hS_new hS (by omega) o1) hl (by omega) (by omega)
theorem X_anew {index t a' b' : Nat} {C : String} {x : Int32} (n q : Nat) (hd : decode (mB M) pc = .ok (.anewarray index, 3)) (hq : pc + 3 = q) (hw : Cond.classLink (mO M) index C ∈ lw_all) (hw2 : Cond.arrayOver (.object C) ∈ lw_tbl) (ht : 103 ≤ t ∧ t < 105) (hC : aTy t = .object C) (hx : x = nI n) (hn : n ≤ 67108864) (ha : a' + 1 ≤ a) (hb : b' + n ≤ b)
    (kk : ∀ o, gT G o = 0 → kB κ ≤ o → X κ d M q L (.ref o :: st) (nw G o t n) a' b' Φ Ψ) : X κ d M pc L (.int x :: st) G a b Φ Ψ := by
  subst hq
  intro p e s m args below meth c H locs cells slots mc ms ls C0 hR hS hl ha1 hb1
  have hfree : gT G H.size = 0 := by
    by_cases h : gT G H.size = 0
    · exact h
    · exact absurd (hR.lt h) (Nat.lt_irrefl _)
  have hcl : x.toNatClampNeg = n := by rw [hx]; exact nI_clamp (by omega)
  have hpos : ¬ x < 0 := by rw [hx]; exact nI_pos (by omega)
  have hAO : va_AO C s := va_AO.moved C0.wm.alike (va_AO.of (C0.1.2.2.1 _ hw2))
  refine W.anew C0.ex C0.cd C0.ow (C0.ws _ hw) (va_AO.use hAO) rfl hd rfl hpos (by rw [hcl]; omega) (show cells + 1 ≤ mc by omega) (show slots + _ ≤ ms by rw [hcl]; omega) fun cA kA comp f1 f2 f3 f4 => ?_
  generalize hH1 : H.push ({ cls := cA, slots := Array.replicate x.toNatClampNeg .null, vm := .none } : Cell) = H1
  have z1 : H1.size = H.size + 1 := by rw [← hH1, Array.size_push]
  have e1 : H1[H.size]? = some (arrV cA x.toNatClampNeg (fun _ => .null)) := by rw [← hH1, Array.getElem?_push_size, ← arrV_new]
  have o1 : ∀ q : Nat, q < H.size → H1[q]? = H[q]? := fun q hq => by rw [← hH1, Array.getElem?_push, if_neg (Nat.ne_of_lt hq)]
  have hra := C0.kn.2.2 t (by omega) (by omega)
  rw [hC] at hra
  obtain ⟨kA', comp', g1, g2, g3, g4⟩ := hra
  have hcA : cA = (kD κ).1 t := Option.some.inj (f1.symm.trans g4)
  rw [hcl] at e1 ⊢
  refine kk H.size hfree hR.2.1 p e s m args below meth c H1 locs (cells + 1) (slots + n) mc ms ls C0 ?_ (hS_new hS (by omega) o1) hl (by omega) (by omega)
  refine hR.chg hR.2.1 (by omega) (fun x hx _ => o1 x hx) nw_agr ⟨fun h => ?_, fun h => ?_⟩
  · rw [gT_nw, if_pos rfl] at h; omega
  · rw [gT_nw, if_pos rfl, gL_nw, if_pos rfl]
    refine ⟨by omega, ?_, by omega, fun _ i _ => by rw [eI_nw, if_pos rfl]; rfl⟩
    rw [e1, hcA]
    have f3' : eR (nw G H.size t n) H.size = fun _ => none := by funext i; rw [eR_nw, if_pos rfl]
    simp only [gC, gL_nw, if_true, f3', show ¬ t = 102 by omega, if_false, ht.1]
    rfl
/-! loads -/
theorem ar_int {H : Heap} (hR : Rp κ G H) {r t : Nat} (ht : gT G r = t) (h : t = 100 ∨ t = 101) : H[r]? = some (vp_cell ((kD κ).1 t) (gL G r, .inl (eI G r))) ∧ gL G r < 2147483648 := by
  obtain ⟨h1, h2, h3, -⟩ := hR.ar ht (by omega)
  rw [gC, if_neg (by omega), if_neg (by omega)] at h2
  exact ⟨h2, h3⟩
theorem ar_long {H : Heap} (hR : Rp κ G H) {r : Nat} (ht : gT G r = 102) : H[r]? = some (vp_cell ((kD κ).1 102) (gL G r, .inr (.inl (eJ G r)))) ∧ gL G r < 2147483648 := by
  obtain ⟨h1, h2, h3, -⟩ := hR.ar ht (by omega)
  rw [gC, if_pos rfl] at h2
  exact ⟨h2, h3⟩
theorem ar_ref {H : Heap} (hR : Rp κ G H) {r t : Nat} (ht : gT G r = t) (h : 103 ≤ t) : H[r]? = some (vp_cell ((kD κ).1 t) (gL G r, .inr (.inr (.inr (.inr (eR G r)))))) ∧ gL G r < 2147483648 ∧ t < 108 := by
  obtain ⟨h1, h2, h3, -⟩ := hR.ar ht (by omega)
  rw [gC, if_neg (by omega), if_pos h] at h2
  exact ⟨h2, h3, h1⟩
theorem X_iaload {r : Nat} {x : Int32} (j q : Nat) (hd : decode (mB M) pc = .ok (.iaload, 1)) (hq : pc + 1 = q) (ht : gT G r = 100) (hx : x = nI j) (hj : j < gL G r) (kk : X κ d M q L (.int (eI G r j) :: st) G a b Φ Ψ) : X κ d M pc L (.int x :: .ref r :: st) G a b Φ Ψ := by
  subst hq
  intro p e s m args below meth c H locs cells slots mc ms ls C0 hR hS hl ha hb
  obtain ⟨h1, h2⟩ := ar_int hR ht (Or.inl rfl)
  have hin : vp_in x (gL G r) := by rw [hx]; exact vp_in_nI hj h2
  have hlt : x.toNatClampNeg = j := by rw [hx]; exact nI_clamp (by omega)
  exact W.iald (v := .int (eI G r j)) C0.ex C0.cd h1 (C0.kn.2.1 100 (by omega) (by omega) (gL G r) (fun j => .int (eI G r j))) (fun q => by cases q) (by show ¬ (x < 0 ∨ (arrV _ _ _).slots.size ≤ _); rw [arrV_size]; exact hin) (by rw [hlt]; show (arrV _ _ _).slots[_]? = _; rw [arrV_read _ _ hj]) rfl rfl hd (kk p e s m args below meth c H locs cells slots mc ms ls C0 hR hS hl ha hb)
theorem X_baload {r : Nat} {x : Int32} (j q : Nat) (hd : decode (mB M) pc = .ok (.baload, 1)) (hq : pc + 1 = q) (ht : gT G r = 101) (hx : x = nI j) (hj : j < gL G r) (kk : X κ d M q L (.int (eI G r j) :: st) G a b Φ Ψ) : X κ d M pc L (.int x :: .ref r :: st) G a b Φ Ψ := by
  subst hq
  intro p e s m args below meth c H locs cells slots mc ms ls C0 hR hS hl ha hb
  obtain ⟨h1, h2⟩ := ar_int hR ht (Or.inr rfl)
  have hin : vp_in x (gL G r) := by rw [hx]; exact vp_in_nI hj h2
  have hlt : x.toNatClampNeg = j := by rw [hx]; exact nI_clamp (by omega)
  exact W.bald (v := .int (eI G r j)) C0.ex C0.cd h1 (C0.kn.2.1 101 (by omega) (by omega) (gL G r) (fun j => .int (eI G r j))) (fun q => by cases q) (by show ¬ (x < 0 ∨ (arrV _ _ _).slots.size ≤ _); rw [arrV_size]; exact hin) (by rw [hlt]; show (arrV _ _ _).slots[_]? = _; rw [arrV_read _ _ hj]) rfl rfl hd (kk p e s m args below meth c H locs cells slots mc ms ls C0 hR hS hl ha hb)
theorem X_laload {r : Nat} {x : Int32} (j q : Nat) (hd : decode (mB M) pc = .ok (.laload, 1)) (hq : pc + 1 = q) (ht : gT G r = 102) (hx : x = nI j) (hj : j < gL G r) (kk : X κ d M q L (.long (eJ G r j) :: st) G a b Φ Ψ) : X κ d M pc L (.int x :: .ref r :: st) G a b Φ Ψ := by
  subst hq
  intro p e s m args below meth c H locs cells slots mc ms ls C0 hR hS hl ha hb
  obtain ⟨h1, h2⟩ := ar_long hR ht
  have hin : vp_in x (gL G r) := by rw [hx]; exact vp_in_nI hj h2
  have hlt : x.toNatClampNeg = j := by rw [hx]; exact nI_clamp (by omega)
  exact W.lald (v := .long (eJ G r j)) C0.ex C0.cd h1 (C0.kn.2.1 102 (by omega) (by omega) (gL G r) (fun j => .long (eJ G r j))) (fun q => by cases q) (by show ¬ (x < 0 ∨ (arrV _ _ _).slots.size ≤ _); rw [arrV_size]; exact hin) (by rw [hlt]; show (arrV _ _ _).slots[_]? = _; rw [arrV_read _ _ hj]) rfl rfl hd (kk p e s m args below meth c H locs cells slots mc ms ls C0 hR hS hl ha hb)
theorem X_aald {r t : Nat} {x : Int32} (j q : Nat) (hd : decode (mB M) pc = .ok (.aaload, 1)) (hq : pc + 1 = q) (ht : gT G r = t) (h3 : 103 ≤ t) (hx : x = nI j) (hj : j < gL G r) (kk : X κ d M q L (va_rf (eR G r j) :: st) G a b Φ Ψ) : X κ d M pc L (.int x :: .ref r :: st) G a b Φ Ψ := by
  subst hq
  intro p e s m args below meth c H locs cells slots mc ms ls C0 hR hS hl ha hb
  obtain ⟨h1, h2, h4⟩ := ar_ref hR ht h3
  have hin : vp_in x (gL G r) := by rw [hx]; exact vp_in_nI hj h2
  have hlt : x.toNatClampNeg = j := by rw [hx]; exact nI_clamp (by omega)
  have hty : ∃ E, aTy t = .object E := by
    rcases (by omega : t = 103 ∨ t = 104 ∨ t = 105 ∨ t = 106 ∨ t = 107) with h | h | h | h | h <;> (subst h; exact ⟨_, rfl⟩)
  obtain ⟨E, hE⟩ := hty
  have hAr := C0.kn.2.1 t (by omega) h4
  rw [hE] at hAr
  exact W.aald (v := va_rf (eR G r j)) (ty := .object E) C0.ex C0.cd h1 (hAr (gL G r) (fun j => va_rf (eR G r j))) rfl (fun q => by cases q) (by show ¬ (x < 0 ∨ (arrV _ _ _).slots.size ≤ _); rw [arrV_size]; exact hin) (by rw [hlt]; show (arrV _ _ _).slots[_]? = _; rw [arrV_read _ _ hj]) rfl rfl hd (kk p e s m args below meth c H locs cells slots mc ms ls C0 hR hS hl ha hb)
theorem X_aaload {r t o : Nat} {x : Int32} (j q : Nat) (hd : decode (mB M) pc = .ok (.aaload, 1)) (hq : pc + 1 = q) (ht : gT G r = t) (h3 : 103 ≤ t) (hx : x = nI j) (hj : j < gL G r) (ho : eR G r j = some o) (kk : X κ d M q L (.ref o :: st) G a b Φ Ψ) : X κ d M pc L (.int x :: .ref r :: st) G a b Φ Ψ := by
  refine X_aald j q hd hq ht h3 hx hj ?_
  rw [ho]; exact kk
theorem X_aaloadN {r t : Nat} {x : Int32} (j q : Nat) (hd : decode (mB M) pc = .ok (.aaload, 1)) (hq : pc + 1 = q) (ht : gT G r = t) (h3 : 103 ≤ t) (hx : x = nI j) (hj : j < gL G r) (ho : eR G r j = none) (kk : X κ d M q L (.null :: st) G a b Φ Ψ) : X κ d M pc L (.int x :: .ref r :: st) G a b Φ Ψ := by
  refine X_aald j q hd hq ht h3 hx hj ?_
  rw [ho]; exact kk
theorem X_alen {r t : Nat} (q : Nat) (hd : decode (mB M) pc = .ok (.arraylength, 1)) (hq : pc + 1 = q) (ht : gT G r = t) (h3 : 100 ≤ t) (kk : X κ d M q L (.int (nI (gL G r)) :: st) G a b Φ Ψ) : X κ d M pc L (.ref r :: st) G a b Φ Ψ := by
  subst hq
  intro p e s m args below meth c H locs cells slots mc ms ls C0 hR hS hl ha hb
  obtain ⟨h1, h2, -, -⟩ := hR.ar ht h3
  have hAr := C0.kn.2.1 t h3 h1
  have hsz : (vp_cell ((kD κ).1 t) (gC G t r)).slots.size = gL G r := by
    unfold gC; split
    · rw [vp_cell_l, arrV_size]
    · split
      · rw [vp_cell_q, arrV_size]
      · rw [vp_cell_i, arrV_size]
  have hIs : s.isArrayOf (vp_cell ((kD κ).1 t) (gC G t r)) (aTy t) := by
    unfold gC; split
    · rw [vp_cell_l]; exact hAr _ _
    · split
      · rw [vp_cell_q]; exact hAr _ _
      · rw [vp_cell_i]; exact hAr _ _
  exact W.alen (n := nI (gL G r)) C0.ex C0.cd h2 hIs (by rw [hsz]; rfl) rfl rfl hd (kk p e s m args below meth c H locs cells slots mc ms ls C0 hR hS hl ha hb)
/-! stores -/
theorem ar_put {H H1 : Heap} (hR : Rp κ G H) {r t : Nat} {G' : Gt} (hB : kB κ ≤ r) (z : H1.size = H.size) (oq : ∀ q, q ≠ r → H1[q]? = H[q]?) (og : ∀ q, q ≠ r → agr G' G q) (ht : gT G' r = t) (h1 : 100 ≤ t) (h2 : t < 108) (hc : H1[r]? = some (vp_cell ((kD κ).1 t) (gC G' t r))) (h3 : gL G' r < 2147483648) (h4 : t = 101 → ∀ i, i < gL G' r → fits .byte (.int (eI G' r i)) = true) : Rp κ G' H1 := by
  subst ht
  exact hR.chg hB (by omega) (fun q _ hq => oq q hq) og ⟨fun h => by omega, fun _ => ⟨h2, hc, h3, h4⟩⟩
theorem wI_agr {o : Nat} {f : Nat → Int32} : ∀ q, q ≠ o → agr (wI G o f) G q := fun q hq => ⟨rfl, fun _ _ => rfl, fun _ _ => rfl, rfl, fun i => by rw [eI_wI, if_neg hq], fun _ => rfl, fun _ => rfl⟩
theorem wJ_agr {o : Nat} {f : Nat → Int64} : ∀ q, q ≠ o → agr (wJ G o f) G q := fun q hq => ⟨rfl, fun _ _ => rfl, fun _ _ => rfl, rfl, fun _ => rfl, fun i => by rw [eJ_wJ, if_neg hq], fun _ => rfl⟩
theorem wR_agr {o : Nat} {f : Nat → Option Nat} : ∀ q, q ≠ o → agr (wR G o f) G q := fun q hq => ⟨rfl, fun _ _ => rfl, fun _ _ => rfl, rfl, fun _ => rfl, fun _ => rfl, fun i => by rw [eR_wR, if_neg hq]⟩
theorem X_iastore {r : Nat} {x v : Int32} (j q : Nat) (hd : decode (mB M) pc = .ok (.iastore, 1)) (hq : pc + 1 = q) (hB : kB κ ≤ r) (ht : gT G r = 100) (hx : x = nI j) (hj : j < gL G r) (kk : X κ d M q L st (uI G r j v) a b Φ Ψ) : X κ d M pc L (.int v :: .int x :: .ref r :: st) G a b Φ Ψ := by
  subst hq
  intro p e s m args below meth c H locs cells slots mc ms ls C0 hR hS hl ha hb
  obtain ⟨h1, h2⟩ := ar_int hR ht (Or.inl rfl)
  have hin : vp_in x (gL G r) := by rw [hx]; exact vp_in_nI hj h2
  have hlt : x.toNatClampNeg = j := by rw [hx]; exact nI_clamp (by omega)
  refine W.iast C0.ex C0.cd h1 (C0.kn.2.1 100 (by omega) (by omega) (gL G r) (fun j => .int (eI G r j))) (fun q => by cases q) (by show ¬ (x < 0 ∨ (arrV _ _ _).slots.size ≤ _); rw [arrV_size]; exact hin) rfl rfl hd fun H1 e1 z oq => ?_
  rw [hlt] at e1 ⊢
  refine kk p e s m args below meth c H1 _ cells slots mc ms ls C0 (ar_put hR hB z oq wI_agr ht (by omega) (by omega) ?_ h2 (fun h => by omega)) (hS.put z oq hB) hl ha hb
  rw [e1, vp_cell_i, arrV_store]
  show some (arrV _ _ _) = some (vp_cell _ (_, .inl _))
  rw [vp_cell_i]
  congr 2
  funext i
  rw [eI_uI]
  by_cases hi : i = j <;> simp [updV, hi]
theorem X_bastore {r : Nat} {x v : Int32} (j q : Nat) (hd : decode (mB M) pc = .ok (.bastore, 1)) (hq : pc + 1 = q) (hB : kB κ ≤ r) (ht : gT G r = 101) (hx : x = nI j) (hj : j < gL G r) (kk : X κ d M q L st (uI G r j v.toInt8.toInt32) a b Φ Ψ) : X κ d M pc L (.int v :: .int x :: .ref r :: st) G a b Φ Ψ := by
  subst hq
  intro p e s m args below meth c H locs cells slots mc ms ls C0 hR hS hl ha hb
  obtain ⟨h1, h2⟩ := ar_int hR ht (Or.inr rfl)
  have hf := (hR.ar ht (by omega)).2.2.2 rfl
  have hin : vp_in x (gL G r) := by rw [hx]; exact vp_in_nI hj h2
  have hlt : x.toNatClampNeg = j := by rw [hx]; exact nI_clamp (by omega)
  refine W.bast C0.ex C0.cd h1 (C0.kn.2.1 101 (by omega) (by omega) (gL G r) (fun j => .int (eI G r j))) (fun q => by cases q) (by show ¬ (x < 0 ∨ (arrV _ _ _).slots.size ≤ _); rw [arrV_size]; exact hin) rfl rfl hd fun H1 e1 z oq => ?_
  rw [hlt] at e1 ⊢
  refine kk p e s m args below meth c H1 _ cells slots mc ms ls C0 (ar_put hR hB z oq wI_agr ht (by omega) (by omega) ?_ h2 (fun _ i hi => ?_)) (hS.put z oq hB) hl ha hb
  · rw [e1, vp_cell_i, arrV_store]
    show some (arrV _ _ _) = some (vp_cell _ (_, .inl _))
    rw [vp_cell_i]
    congr 2
    funext i
    rw [eI_uI]
    by_cases hi : i = j
    · simp [updV, hi]; rfl
    · simp [updV, hi]
  · show fits .byte (.int (eI (uI G r j _) r i)) = true
    rw [eI_uI]
    by_cases h : i = j
    · simp only [h, and_self, if_true]; exact pk_fb v
    · simp only [h, and_false, if_false]; exact hf i hi
theorem X_lastore {r : Nat} {x : Int32} {v : Int64} (j q : Nat) (hd : decode (mB M) pc = .ok (.lastore, 1)) (hq : pc + 1 = q) (hB : kB κ ≤ r) (ht : gT G r = 102) (hx : x = nI j) (hj : j < gL G r) (kk : X κ d M q L st (uJ G r j v) a b Φ Ψ) : X κ d M pc L (.long v :: .int x :: .ref r :: st) G a b Φ Ψ := by
  subst hq
  intro p e s m args below meth c H locs cells slots mc ms ls C0 hR hS hl ha hb
  obtain ⟨h1, h2⟩ := ar_long hR ht
  have hin : vp_in x (gL G r) := by rw [hx]; exact vp_in_nI hj h2
  have hlt : x.toNatClampNeg = j := by rw [hx]; exact nI_clamp (by omega)
  refine W.last C0.ex C0.cd h1 (C0.kn.2.1 102 (by omega) (by omega) (gL G r) (fun j => .long (eJ G r j))) (fun q => by cases q) (by show ¬ (x < 0 ∨ (arrV _ _ _).slots.size ≤ _); rw [arrV_size]; exact hin) rfl rfl hd fun H1 e1 z oq => ?_
  rw [hlt] at e1 ⊢
  refine kk p e s m args below meth c H1 _ cells slots mc ms ls C0 (ar_put hR hB z oq wJ_agr ht (by omega) (by omega) ?_ h2 (fun h => by omega)) (hS.put z oq hB) hl ha hb
  rw [e1, vp_cell_l, arrV_store]
  show some (arrV _ _ _) = some (vp_cell _ (_, .inr (.inl _)))
  rw [vp_cell_l]
  congr 2
  funext i
  rw [eJ_uJ]
  by_cases hi : i = j <;> simp [updV, hi]
theorem gC_ref {t r : Nat} (h : 103 ≤ t) : gC G t r = (gL G r, .inr (.inr (.inr (.inr (eR G r))))) := by rw [gC, if_neg (by omega), if_pos h]
theorem ar_refput {H H1 : Heap} (hR : Rp κ G H) {r t j : Nat} {v : Option Nat} (hB : kB κ ≤ r) (ht : gT G r = t) (h3 : 103 ≤ t) (z : H1.size = H.size) (oq : ∀ q, q ≠ r → H1[q]? = H[q]?) (e1 : H1[r]? = some ((vp_cell ((kD κ).1 t) (gL G r, .inr (.inr (.inr (.inr (eR G r)))))).setSlot j (va_rf v))) : Rp κ (uR G r j v) H1 := by
  obtain ⟨h1, h2, h4⟩ := ar_ref hR ht h3
  refine ar_put hR hB z oq wR_agr ht (by omega) h4 ?_ h2 (fun h => by omega)
  rw [e1, vp_cell_q, arrV_store, gC_ref h3]
  show some (arrV _ _ _) = some (vp_cell _ (_, .inr (.inr (.inr (.inr _)))))
  rw [vp_cell_q]
  congr 2
  funext i
  rw [eR_uR]
  by_cases hi : i = j <;> simp [updV, hi]
theorem X_aastoreN {r t : Nat} {x : Int32} (j q : Nat) (hd : decode (mB M) pc = .ok (.aastore, 1)) (hq : pc + 1 = q) (hB : kB κ ≤ r) (ht : gT G r = t) (h3 : 103 ≤ t) (hx : x = nI j) (hj : j < gL G r) (kk : X κ d M q L st (uR G r j none) a b Φ Ψ) : X κ d M pc L (.null :: .int x :: .ref r :: st) G a b Φ Ψ := by
  subst hq
  intro p e s m args below meth c H locs cells slots mc ms ls C0 hR hS hl ha hb
  obtain ⟨h1, h2, h4⟩ := ar_ref hR ht h3
  have hin : vp_in x (gL G r) := by rw [hx]; exact vp_in_nI hj h2
  have hlt : x.toNatClampNeg = j := by rw [hx]; exact nI_clamp (by omega)
  have hty : ∃ E, aTy t = .object E := by
    rcases (by omega : t = 103 ∨ t = 104 ∨ t = 105 ∨ t = 106 ∨ t = 107) with h | h | h | h | h <;> (subst h; exact ⟨_, rfl⟩)
  obtain ⟨E, hE⟩ := hty
  have hAr := C0.kn.2.1 t (by omega) h4
  rw [hE] at hAr
  refine va_WaastN (C := E) C0.ex C0.cd h1 (hAr (gL G r) (fun j => va_rf (eR G r j))) (fun h => by cases h) (by show ¬ (x < 0 ∨ (arrV _ _ _).slots.size ≤ _); rw [arrV_size]; exact hin) rfl rfl hd fun H1 e1 z oq => ?_
  rw [hlt] at e1 ⊢
  exact kk p e s m args below meth c H1 _ cells slots mc ms ls C0 (ar_refput hR hB ht h3 z oq e1) (hS.put z oq hB) hl ha hb
/-- an object of a known class is of the kind E -/
theorem any_of {H : Heap} {p : Program} {s : State} {m : MethodId} {args : Array Value} {meth : Method} {c : Code} (C0 : Cx κ M p s m args meth c) (hR : Rp κ G H) {o t : Nat} {C E : String} {T : u_T} {N : Nat} (ht : gT G o = t) (h0 : t ≠ 0) (hC : CL[t]? = some (C, T, N)) (hca : C = E ∨ Cond.castable C E ∈ lw_tbl) : va_Any E s H o := by
  obtain ⟨cell, q1, q2, q3, -⟩ := hR.ob ht h0 hC
  have hcls := (C0.kn.1.1 t _ hC).2
  obtain ⟨kC, hkC, -⟩ := hcls.2
  refine ⟨cell, q1, by rw [q3]; rfl, ⟨kC, by rw [q2]; exact hkC⟩, fun comp hcomp => ?_⟩
  rw [q2]
  rcases hca with e | e
  · subst e
    cases hcls.1.symm.trans hcomp
    exact va_asg _ _
  · obtain ⟨c0, t1, f1, f2, f3⟩ := Cond.castable_spec (va_Nw.use (A := args) rfl (va_Nw.warmC C0.wm (va_Nw.of rfl (C0.1.2.2.1 _ e))))
    cases hcls.1.symm.trans f1
    cases hcomp.symm.trans f2
    exact f3
theorem X_aastore {r t o t1 : Nat} {C E : String} {T : u_T} {N : Nat} {x : Int32} (j q : Nat) (hd : decode (mB M) pc = .ok (.aastore, 1)) (hq : pc + 1 = q) (hB : kB κ ≤ r) (ht : gT G r = t) (h3 : 103 ≤ t) (h5 : t < 105) (hE : aTy t = .object E) (hx : x = nI j) (hj : j < gL G r) (ho : gT G o = t1) (h0 : t1 ≠ 0) (hC : CL[t1]? = some (C, T, N)) (hca : C = E ∨ Cond.castable C E ∈ lw_tbl) (kk : X κ d M q L st (uR G r j (some o)) a b Φ Ψ) : X κ d M pc L (.ref o :: .int x :: .ref r :: st) G a b Φ Ψ := by
  subst hq
  intro p e s m args below meth c H locs cells slots mc ms ls C0 hR hS hl ha hb
  obtain ⟨h1, h2, h4⟩ := ar_ref hR ht h3
  have hlt : x.toNatClampNeg = j := by rw [hx]; exact nI_clamp (by omega)
  have hpos : ¬ x < 0 := by rw [hx]; exact nI_pos (by omega)
  have hra := C0.kn.2.2 t (by omega) h5
  rw [hE] at hra
  obtain ⟨kA, comp, k1, k2, k3, -⟩ := hra
  obtain ⟨kE, hkE, -⟩ := Vm.findClass_spec k3
  obtain ⟨cellV, g1, g3, ⟨kC, hkC⟩, hasg⟩ := any_of C0 hR ho h0 hC hca
  refine W.aast C0.ex C0.cd h1 (fun q h => by cases h) (fun h => by cases h) k1 k2 rfl hkE ⟨hpos, by show _ < (arrV _ _ _).slots.size; rw [arrV_size, hlt]; exact hj⟩ g1 (fun q h => by rw [h] at g3; cases g3) hkC (hasg _ k3) rfl rfl hd fun H1 e1 z oq => ?_
  rw [hlt] at e1 ⊢
  exact kk p e s m args below meth c H1 _ cells slots mc ms ls C0 (ar_refput (v := some o) hR hB ht h3 z oq e1) (hS.put z oq hB) hl ha hb
/-! casts -/
theorem xrecv {H : Heap} {p : Program} {s : State} {m : MethodId} {args : Array Value} {meth : Method} {c : Code} (C0 : Cx κ M p s m args meth c) (hR : Rp κ G H) {o t : Nat} {C : String} {T : u_T} {N : Nat} (ht : gT G o = t) (h0 : t ≠ 0) (hC : CL[t]? = some (C, T, N)) : ∃ cell : Cell, H[o]? = some cell ∧ cell.vm.isStatics = false ∧ s.vm.findClass C = some cell.cls := by
  obtain ⟨cell, q1, q2, q3, -⟩ := hR.ob ht h0 hC
  exact ⟨cell, q1, by rw [q3]; rfl, by rw [q2]; exact (C0.kn.1.1 t _ hC).2.1⟩
theorem X_cast {o t index : Nat} {C nm : String} {T : u_T} {N : Nat} (q : Nat) (hd : decode (mB M) pc = .ok (.checkcast index, 3)) (hq : pc + 3 = q) (ht : gT G o = t) (h0 : t ≠ 0) (hC : CL[t]? = some (C, T, N)) (hw : Cond.classLink (mO M) index nm ∈ lw_all) (hca : C = nm ∨ Cond.castable C nm ∈ lw_tbl) (kk : X κ d M q L (.ref o :: st) G a b Φ Ψ) : X κ d M pc L (.ref o :: st) G a b Φ Ψ := by
  subst hq
  intro p e s m args below meth c H locs cells slots mc ms ls C0 hR hS hl ha hb
  rcases hca with e1 | e1
  · subst e1
    exact va_castE C0.ex C0.cd C0.ow (C0.ws _ hw) (xrecv C0 hR ht h0 hC) hd (kk p e s m args below meth c H locs cells slots mc ms ls C0 hR hS hl ha hb)
  · exact va_castY C0.ex C0.cd C0.ow (C0.ws _ hw) (va_Nw.warmC C0.wm (va_Nw.of rfl (C0.1.2.2.1 _ e1))) (xrecv C0 hR ht h0 hC) hd (kk p e s m args below meth c H locs cells slots mc ms ls C0 hR hS hl ha hb)
theorem X_castN {index : Nat} (q : Nat) (hd : decode (mB M) pc = .ok (.checkcast index, 3)) (hq : pc + 3 = q) (kk : X κ d M q L (.null :: st) G a b Φ Ψ) : X κ d M pc L (.null :: st) G a b Φ Ψ := by
  subst hq
  intro p e s m args below meth c H locs cells slots mc ms ls C0 hR hS hl ha hb
  exact lv_castN C0.ex C0.cd hd (kk p e s m args below meth c H locs cells slots mc ms ls C0 hR hS hl ha hb)
/-- checkcast to an array's own class -/
theorem X_castA {o t index : Nat} {C nm : String} (q : Nat) (hd : decode (mB M) pc = .ok (.checkcast index, 3)) (hq : pc + 3 = q) (ht : gT G o = t) (h3 : 103 ≤ t) (h5 : t < 105) (hE : aTy t = .object C) (hnm : "[" ++ (FieldType.object C).toString = nm) (hw : Cond.classLink (mO M) index nm ∈ lw_all) (kk : X κ d M q L (.ref o :: st) G a b Φ Ψ) : X κ d M pc L (.ref o :: st) G a b Φ Ψ := by
  subst hq
  intro p e s m args below meth c H locs cells slots mc ms ls C0 hR hS hl ha hb
  obtain ⟨h1, h2, h4⟩ := ar_ref hR ht h3
  have hra := C0.kn.2.2 t (by omega) h5
  rw [hE] at hra
  exact va_castE C0.ex C0.cd C0.ow (C0.ws _ hw) ⟨_, h1, rfl, va_nmO hra hnm⟩ hd (kk p e s m args below meth c H locs cells slots mc ms ls C0 hR hS hl ha hb)
theorem X_instY {o t index : Nat} {C nm : String} {T : u_T} {N : Nat} (q : Nat) (hd : decode (mB M) pc = .ok (.instanceof index, 3)) (hq : pc + 3 = q) (ht : gT G o = t) (h0 : t ≠ 0) (hC : CL[t]? = some (C, T, N)) (hw : Cond.classLink (mO M) index nm ∈ lw_all) (hca : C = nm ∨ Cond.castable C nm ∈ lw_tbl) (kk : X κ d M q L (.int 1 :: st) G a b Φ Ψ) : X κ d M pc L (.ref o :: st) G a b Φ Ψ := by
  subst hq
  intro p e s m args below meth c H locs cells slots mc ms ls C0 hR hS hl ha hb
  rcases hca with e1 | e1
  · subst e1
    exact va_instE C0.ex C0.cd C0.ow (C0.ws _ hw) (xrecv C0 hR ht h0 hC) hd (kk p e s m args below meth c H locs cells slots mc ms ls C0 hR hS hl ha hb)
  · exact va_instY C0.ex C0.cd C0.ow (C0.ws _ hw) (va_Nw.warmC C0.wm (va_Nw.of rfl (C0.1.2.2.1 _ e1))) (xrecv C0 hR ht h0 hC) hd (kk p e s m args below meth c H locs cells slots mc ms ls C0 hR hS hl ha hb)
theorem X_instNo {o t index : Nat} {C nm : String} {T : u_T} {N : Nat} (q : Nat) (hd : decode (mB M) pc = .ok (.instanceof index, 3)) (hq : pc + 3 = q) (ht : gT G o = t) (h0 : t ≠ 0) (hC : CL[t]? = some (C, T, N)) (hw : Cond.classLink (mO M) index nm ∈ lw_all) (hca : (C, nm) ∈ NCS) (kk : X κ d M q L (.int 0 :: st) G a b Φ Ψ) : X κ d M pc L (.ref o :: st) G a b Φ Ψ := by
  subst hq
  intro p e s m args below meth c H locs cells slots mc ms ls C0 hR hS hl ha hb
  exact va_instNo C0.ex C0.cd C0.ow (C0.ws _ hw) (va_Nc.moved C0.wm.alike (C0.1.2.2.2.2.2.2.2.2.2.2.2.2.2.2.2.2.2.2.2.2.2.1 _ hca)) (xrecv C0 hR ht h0 hC) hd (kk p e s m args below meth c H locs cells slots mc ms ls C0 hR hS hl ha hb)
theorem X_instN {index : Nat} (q : Nat) (hd : decode (mB M) pc = .ok (.instanceof index, 3)) (hq : pc + 3 = q) (kk : X κ d M q L (.int 0 :: st) G a b Φ Ψ) : X κ d M pc L (.null :: st) G a b Φ Ψ := by
  subst hq
  intro p e s m args below meth c H locs cells slots mc ms ls C0 hR hS hl ha hb
  exact lv_instN C0.ex C0.cd hd (kk p e s m args below meth c H locs cells slots mc ms ls C0 hR hS hl ha hb)
end XA

/-! ===== CORE 3: fields, objects, arrays, casts ===== -/
section XH
variable {κ : Kx} {d : Nat} {M : XM} {pc : Nat} {L : List (Option Value)} {st : List Value} {G : Gt} {a b : Nat} {Φ : Option Value → Gt → Prop} {Ψ : String → Nat → Gt → Prop}
theorem Rp.ob {H : Heap} (h : Rp κ G H) {o t : Nat} {C : String} {T : u_T} {N : Nat} (ht : gT G o = t) (h0 : t ≠ 0) (hC : CL[t]? = some (C, T, N)) : t_OB o ((kD κ).1 t) N ((kD κ).2 t) H (gV G t o) := by
  subst ht
  have hl : gT G o < 31 := (List.getElem?_eq_some_iff.mp hC).1
  obtain ⟨r, h1, h2⟩ := (h.1 o h0).1 (by omega)
  cases h1.symm.trans hC
  exact h2
theorem Rp.ar {H : Heap} (h : Rp κ G H) {o t : Nat} (ht : gT G o = t) (h1 : 100 ≤ t) : t < 108 ∧ H[o]? = some (vp_cell ((kD κ).1 t) (gC G t o)) ∧ gL G o < 2147483648 ∧ (t = 101 → ∀ i, i < gL G o → fits .byte (.int (eI G o i)) = true) := by
  subst ht
  exact (h.1 o (by omega)).2 h1
theorem Rp.chg {H H' : Heap} {G' : Gt} {o : Nat} (h : Rp κ G H) (ho : kB κ ≤ o) (hz : H.size ≤ H'.size) (oq : ∀ q, q < H.size → q ≠ o → H'[q]? = H[q]?) (og : ∀ q, q ≠ o → agr G' G q) (hc : cellR (kD κ) G' o H') : Rp κ G' H' := by
  refine ⟨fun q hq => ?_, Nat.le_trans h.2.1 hz, fun q hq => ?_, fun q hq => ?_⟩
  · by_cases e : q = o
    · rw [e]; exact hc
    · have hg : gT G q ≠ 0 := by rw [← (og q e).1]; exact hq
      exact (h.1 q hg).of (og q e) (oq q (h.lt hg) e)
  · rw [oq q (Nat.lt_of_lt_of_le hq h.2.1) (by omega)]
    exact h.2.2.1 q hq
  · exact (og q (by omega)).trans (h.2.2.2 q hq)
def isI : FieldType → Bool
  | .object _ => false
  | .array _ => false
  | .float => false
  | _ => true
def isR : FieldType → Bool
  | .object _ => true
  | .array _ => true
  | _ => false
theorem vOf_I {ty : FieldType} (h : isI ty = true) (i : Int32) (r : Option Nat) : vOf ty i r = .int i := by
  cases ty <;> first | rfl | (simp [isI] at h)
theorem vOf_R {ty : FieldType} (h : isR ty = true) (i : Int32) (r : Option Nat) : vOf ty i r = va_rf r := by
  cases ty <;> first | rfl | (simp [isR] at h)
theorem X_get {t k r index : Nat} {C : String} {T : u_T} {N : Nat} (q : Nat) (hd : decode (mB M) pc = .ok (.getfield index, 3)) (hq : pc + 3 = q) (hC : CL[t]? = some (C, T, N)) (h0 : t ≠ 0) (hk : k < N) {ref : String} (hs : ref = (T k).1 ∨ Cond.sameField ref (T k).1 (T k).2.1 (T k).2.2.1 ∈ lw_all) (hw : Cond.fieldLink (mO M) index ref (T k).2.1 (T k).2.2.1 ∈ lw_all) (ht : gT G r = t)
    (kk : X κ d M q L (gV G t r k :: st) G a b Φ Ψ) : X κ d M pc L (.ref r :: st) G a b Φ Ψ := by
  subst hq
  intro p e s m args below meth c H locs cells slots mc ms ls C0 hR hS hl ha hb
  obtain ⟨cell, q1, q2, q3, q4⟩ := hR.ob ht h0 hC
  obtain ⟨hSl, hfc, kC, hkC, hkind⟩ := C0.kn.1.1 t _ hC
  obtain ⟨cf, kf, fi, f, hi, hsl⟩ := hSl k hk
  have hi' : s.fieldFound? ref (T k).2.1 (T k).2.2.1 = some (cf, kf, fi, f) := by
    rcases hs with e1 | e1
    · rw [e1]; exact hi
    · exact u_same (C0.ws _ e1) _ hi
  refine W.getf C0.ex C0.cd C0.ow (C0.ws _ hw) hi' (u_facts hfc hkC (u_lays C0.ws (CL_in t _ hC) hk) hi).1 q1 (by rw [q3]; exact fun h => by cases h) (v := gV G t r k) ?_ rfl rfl hd (kk p e s m args below meth c H locs cells slots mc ms ls C0 hR hS hl ha hb)
  rw [hsl, q4 k hk]
theorem Cx.nest {p : Program} {s : State} {m : MethodId} {args : Array Value} {meth : Method} {c : Code} (C : Cx κ M p s m args meth c) {i : Nat} {x n dd h : String} (hw : Cond.fieldLinkNest (mO M) i x n dd h ∈ lw_tbl) : (Cond.fieldLinkNest (mO M) i x n dd h).before args s = true :=
  va_Nw.use rfl (va_Nw.warmF C.wm (va_Nw.of rfl (C.1.2.2.1 _ hw)))
theorem X_gnt {t k r index : Nat} {C : String} {T : u_T} {N : Nat} (q : Nat) (hd : decode (mB M) pc = .ok (.getfield index, 3)) (hq : pc + 3 = q) (hC : CL[t]? = some (C, T, N)) (h0 : t ≠ 0) (hk : k < N) {host : String} (hw : Cond.fieldLinkNest (mO M) index (T k).1 (T k).2.1 (T k).2.2.1 host ∈ lw_tbl) (ht : gT G r = t)
    (kk : X κ d M q L (gV G t r k :: st) G a b Φ Ψ) : X κ d M pc L (.ref r :: st) G a b Φ Ψ := by
  subst hq
  intro p e s m args below meth c H locs cells slots mc ms ls C0 hR hS hl ha hb
  obtain ⟨cell, q1, q2, q3, q4⟩ := hR.ob ht h0 hC
  obtain ⟨hSl, hfc, kC, hkC, hkind⟩ := C0.kn.1.1 t _ hC
  obtain ⟨cf, kf, fi, f, hi, hsl⟩ := hSl k hk
  refine va_Wgetf C0.ex C0.cd C0.ow (C0.nest hw) hi (u_facts hfc hkC (u_lays C0.ws (CL_in t _ hC) hk) hi).1 q1 (by rw [q3]; exact fun h => by cases h) (v := gV G t r k) ?_ rfl rfl hd (kk p e s m args below meth c H locs cells slots mc ms ls C0 hR hS hl ha hb)
  rw [hsl, q4 k hk]
theorem X_getI {t k r index : Nat} {C : String} {T : u_T} {N : Nat} (q : Nat) (hd : decode (mB M) pc = .ok (.getfield index, 3)) (hq : pc + 3 = q) (hC : CL[t]? = some (C, T, N)) (h0 : t ≠ 0) (hk : k < N) {ref : String} (hs : ref = (T k).1 ∨ Cond.sameField ref (T k).1 (T k).2.1 (T k).2.2.1 ∈ lw_all) (hw : Cond.fieldLink (mO M) index ref (T k).2.1 (T k).2.2.1 ∈ lw_all) (hi : isI (tyF t k) = true) (ht : gT G r = t)
    (kk : X κ d M q L (.int (gI G t k r) :: st) G a b Φ Ψ) : X κ d M pc L (.ref r :: st) G a b Φ Ψ := by
  refine X_get q hd hq hC h0 hk hs hw ht ?_
  rw [gV, vOf_I hi]
  exact kk
theorem X_getR {t k r o index : Nat} {C : String} {T : u_T} {N : Nat} (q : Nat) (hd : decode (mB M) pc = .ok (.getfield index, 3)) (hq : pc + 3 = q) (hC : CL[t]? = some (C, T, N)) (h0 : t ≠ 0) (hk : k < N) {ref : String} (hs : ref = (T k).1 ∨ Cond.sameField ref (T k).1 (T k).2.1 (T k).2.2.1 ∈ lw_all) (hw : Cond.fieldLink (mO M) index ref (T k).2.1 (T k).2.2.1 ∈ lw_all) (hi : isR (tyF t k) = true) (ht : gT G r = t) (ho : gR G t k r = some o)
    (kk : X κ d M q L (.ref o :: st) G a b Φ Ψ) : X κ d M pc L (.ref r :: st) G a b Φ Ψ := by
  refine X_get q hd hq hC h0 hk hs hw ht ?_
  rw [gV, vOf_R hi, ho]
  exact kk
theorem X_getN {t k r index : Nat} {C : String} {T : u_T} {N : Nat} (q : Nat) (hd : decode (mB M) pc = .ok (.getfield index, 3)) (hq : pc + 3 = q) (hC : CL[t]? = some (C, T, N)) (h0 : t ≠ 0) (hk : k < N) {ref : String} (hs : ref = (T k).1 ∨ Cond.sameField ref (T k).1 (T k).2.1 (T k).2.2.1 ∈ lw_all) (hw : Cond.fieldLink (mO M) index ref (T k).2.1 (T k).2.2.1 ∈ lw_all) (hi : isR (tyF t k) = true) (ht : gT G r = t) (ho : gR G t k r = none)
    (kk : X κ d M q L (.null :: st) G a b Φ Ψ) : X κ d M pc L (.ref r :: st) G a b Φ Ψ := by
  refine X_get q hd hq hC h0 hk hs hw ht ?_
  rw [gV, vOf_R hi, ho]
  exact kk
theorem X_gnI {t k r index : Nat} {C : String} {T : u_T} {N : Nat} (q : Nat) (hd : decode (mB M) pc = .ok (.getfield index, 3)) (hq : pc + 3 = q) (hC : CL[t]? = some (C, T, N)) (h0 : t ≠ 0) (hk : k < N) {host : String} (hw : Cond.fieldLinkNest (mO M) index (T k).1 (T k).2.1 (T k).2.2.1 host ∈ lw_tbl) (hi : isI (tyF t k) = true) (ht : gT G r = t)
    (kk : X κ d M q L (.int (gI G t k r) :: st) G a b Φ Ψ) : X κ d M pc L (.ref r :: st) G a b Φ Ψ := by
  refine X_gnt q hd hq hC h0 hk hw ht ?_
  rw [gV, vOf_I hi]
  exact kk
theorem X_gnR {t k r o index : Nat} {C : String} {T : u_T} {N : Nat} (q : Nat) (hd : decode (mB M) pc = .ok (.getfield index, 3)) (hq : pc + 3 = q) (hC : CL[t]? = some (C, T, N)) (h0 : t ≠ 0) (hk : k < N) {host : String} (hw : Cond.fieldLinkNest (mO M) index (T k).1 (T k).2.1 (T k).2.2.1 host ∈ lw_tbl) (hi : isR (tyF t k) = true) (ht : gT G r = t) (ho : gR G t k r = some o)
    (kk : X κ d M q L (.ref o :: st) G a b Φ Ψ) : X κ d M pc L (.ref r :: st) G a b Φ Ψ := by
  refine X_gnt q hd hq hC h0 hk hw ht ?_
  rw [gV, vOf_R hi, ho]
  exact kk
/-- a field's new value: int or reference -/
def fV (v : Value) (i : Int32) (r : Option Nat) : Prop := v = .int i ∨ v = va_rf r
def sV (G : Gt) (t k o : Nat) (v : Value) : Gt := match v with
  | .int x => sI G t k o x
  | .float x => sI G t k o x.toInt32
  | .ref x => sR G t k o (some x)
  | _ => sR G t k o none
theorem sV_agr {t k o : Nat} (v : Value) : ∀ q, q ≠ o → agr (sV G t k o v) G q := by
  intro q hq
  unfold sV
  split
  · exact ⟨rfl, fun c k' => by rw [gI_sI, if_neg (fun h => hq h.1)], fun _ _ => rfl, rfl, fun _ => rfl, fun _ => rfl, fun _ => rfl⟩
  · exact ⟨rfl, fun c k' => by rw [gI_sI, if_neg (fun h => hq h.1)], fun _ _ => rfl, rfl, fun _ => rfl, fun _ => rfl, fun _ => rfl⟩
  · exact ⟨rfl, fun _ _ => rfl, fun c k' => by rw [gR_sR, if_neg (fun h => hq h.1)], rfl, fun _ => rfl, fun _ => rfl, fun _ => rfl⟩
  · exact ⟨rfl, fun _ _ => rfl, fun c k' => by rw [gR_sR, if_neg (fun h => hq h.1)], rfl, fun _ => rfl, fun _ => rfl, fun _ => rfl⟩
theorem sV_gT {t k o : Nat} (v : Value) (x : Nat) : gT (sV G t k o v) x = gT G x := by
  unfold sV; split <;> rfl
/-- the value fits the field's kind -/
def okV (ty : FieldType) (v : Value) : Bool := match v with
  | .int _ => isI ty
  | .float _ => decide (ty = .float)
  | .ref _ => isR ty
  | .null => isR ty
  | _ => false
theorem vOf_F {x : UInt32} : x.toInt32.toUInt32 = x := by simp
theorem sV_gV {t k o : Nat} {v : Value} (h : okV (tyF t k) v = true) (j : Nat) : gV (sV G t k o v) t o j = updV (gV G t o) k v j := by
  unfold updV
  cases v with
  | int x =>
    simp only [gV, sV, gI_sI, gR_sI]
    by_cases hj : j = k
    · subst hj
      simp only [true_and, and_self, if_true]
      exact vOf_I h _ _
    · simp [hj]
  | float x =>
    have ht : tyF t k = .float := by simpa [okV] using h
    simp only [gV, sV, gI_sI, gR_sI]
    by_cases hj : j = k
    · subst hj
      simp [ht, vOf]
    · simp [hj]
  | ref x =>
    simp only [gV, sV, gI_sR, gR_sR]
    by_cases hj : j = k
    · subst hj
      simp only [true_and, and_self, if_true]
      exact vOf_R h _ _
    · simp [hj]
  | null =>
    simp only [gV, sV, gI_sR, gR_sR]
    by_cases hj : j = k
    · subst hj
      simp only [true_and, and_self, if_true]
      exact vOf_R h _ _
    · simp [hj]
  | _ => simp [okV] at h
theorem kn_apart {s : State} {args : Array Value} {t : Nat} {C : String} {T : u_T} {N : Nat} {D : va_G} (hw : ∀ w ∈ lw_all, w.before args s = true) (hK : KnA D s) (hC : CL[t]? = some (C, T, N)) : ∀ x y, x < N → y < N → x ≠ y → (D.2 t) x ≠ (D.2 t) y :=
  va_apart (own := C) hw (CL_in t _ hC) (tyF t) (CL_ty t _ hC) (CL_nm t _ hC) hK.1 hC
theorem X_putA {H H' : Heap} {t k r : Nat} {v : Value} {C : String} {T : u_T} {N : Nat} {s : State} {args : Array Value} {m : MethodId} {p : Program} {meth : Method} {c : Code} (C0 : Cx κ M p s m args meth c) (hR : Rp κ G H) (hC : CL[t]? = some (C, T, N)) (h0 : t ≠ 0) (hk : k < N) (ht : gT G r = t) (hB : kB κ ≤ r) (hv : okV (tyF t k) v = true) {cell : Cell} (q2 : cell.cls = (kD κ).1 t) (q3 : cell.vm = .none) (q4 : ∀ k, k < N → cell.slots[(kD κ).2 t k]? = some (gV G t r k)) (e1 : H'[r]? = some (cell.setSlot ((kD κ).2 t k) v)) (e2 : H'.size = H.size) (e3 : ∀ q, q ≠ r → H'[q]? = H[q]?) : Rp κ (sV G t k r v) H' := by
  have hl : t < 31 := (List.getElem?_eq_some_iff.mp hC).1
  refine hR.chg hB (by omega) (fun q _ hq => e3 q hq) (sV_agr v) ⟨fun _ => ?_, fun h => ?_⟩
  · rw [sV_gT, ht]
    exact ⟨_, hC, t_OB.to (V := updV (gV G t r) k v) ⟨_, e1, q2, q3, t_set q4 (kn_apart C0.ws C0.kn hC) hk v⟩ (fun j _ => (sV_gV hv j).symm)⟩
  · rw [sV_gT, ht] at h
    omega
theorem X_put {t k r index : Nat} {v : Value} {C : String} {T : u_T} {N : Nat} (q : Nat) (hd : decode (mB M) pc = .ok (.putfield index, 3)) (hq : pc + 3 = q) (hC : CL[t]? = some (C, T, N)) (h0 : t ≠ 0) (hk : k < N) {ref : String} (hs : ref = (T k).1 ∨ Cond.sameField ref (T k).1 (T k).2.1 (T k).2.2.1 ∈ lw_all) (hw : Cond.fieldLink (mO M) index ref (T k).2.1 (T k).2.2.1 ∈ lw_all) (hf : (T k).2.2.2 = false ∨ ((mY M).name = "<init>" ∧ (T k).1 = mO M)) (hv : okV (tyF t k) v = true) (hn : narrow (tyF t k) v = v) (hfit : fits (tyF t k) v = true) (hB : kB κ ≤ r) (ht : gT G r = t)
    (kk : X κ d M q L st (sV G t k r v) a b Φ Ψ) : X κ d M pc L (v :: .ref r :: st) G a b Φ Ψ := by
  subst hq
  intro p e s m args below meth c H locs cells slots mc ms ls C0 hR hS hl ha hb
  obtain ⟨cell, q1, q2, q3, q4⟩ := hR.ob ht h0 hC
  obtain ⟨hSl, hfc, kC, hkC, hkind⟩ := C0.kn.1.1 t _ hC
  obtain ⟨cf, kf, fi, f, hi, hsl⟩ := hSl k hk
  have hi' : s.fieldFound? ref (T k).2.1 (T k).2.2.1 = some (cf, kf, fi, f) := by
    rcases hs with e1 | e1
    · rw [e1]; exact hi
    · exact u_same (C0.ws _ e1) _ hi
  have hlay := C0.ws _ (CL_in t _ hC _ (u_in_lay hk))
  have hst := (u_facts hfc hkC (u_lays C0.ws (CL_in t _ hC) hk) hi).1
  have hdt := CL_ty t _ hC k hk
  unfold u_lay at hlay
  by_cases hfin : (T k).2.2.2 = true
  · rcases hf with hf | ⟨hf1, hf2⟩
    · rw [hf] at hfin; cases hfin
    · rw [if_pos hfin] at hlay
      have hcf : m.cls = cf := by
        obtain ⟨_, _, c', _, _, _, -, -, hf', -, -, -, hown2, -⟩ := Cond.laysFinal_spec hlay
        have e1 : c' = cf := by have := hi.symm.trans hf'; simp at this; exact this.1.symm
        rw [hf2] at hown2
        rw [← e1]; exact Option.some.inj (C0.ow.symm.trans hown2)
      have h6 := u_fits hfc hkC hkind (Or.inr hlay) hi hdt hn hfit
      refine W.putFinK C0.ex C0.cd C0.ow (C0.ws _ hw) hi' hst hcf (C0.nm.trans hf1) (by rw [q2]; exact h6) q1 q3 (by rw [hsl]; exact k2_hasslot (q4 k hk)) rfl rfl hd fun H' e1 e2 e3 => ?_
      rw [hsl] at e1 ⊢
      exact kk p e s m args below meth c H' _ cells slots mc ms ls C0 (X_putA C0 hR hC h0 hk ht hB hv q2 q3 q4 e1 e2 e3) (hS.put e2 e3 hB) hl ha hb
  · rw [if_neg hfin] at hlay
    have h6 := u_store hfc hkC hkind hlay hi hdt hn hfit
    refine W.putK C0.ex C0.cd (f := f) ⟨C0.ow, C0.ws _ hw, ⟨_, _, _, hi'⟩, hst⟩ (by rw [q2]; exact h6) q1 q3 (by rw [hsl]; exact k2_hasslot (q4 k hk)) rfl rfl hd fun H' e1 e2 e3 => ?_
    rw [hsl] at e1 ⊢
    exact kk p e s m args below meth c H' _ cells slots mc ms ls C0 (X_putA C0 hR hC h0 hk ht hB hv q2 q3 q4 e1 e2 e3) (hS.put e2 e3 hB) hl ha hb
theorem X_pnt {t k r index : Nat} {v : Value} {C : String} {T : u_T} {N : Nat} (q : Nat) (hd : decode (mB M) pc = .ok (.putfield index, 3)) (hq : pc + 3 = q) (hC : CL[t]? = some (C, T, N)) (h0 : t ≠ 0) (hk : k < N) {host : String} (hw : Cond.fieldLinkNest (mO M) index (T k).1 (T k).2.1 (T k).2.2.1 host ∈ lw_tbl) (hf : (T k).2.2.2 = false) (hv : okV (tyF t k) v = true) (hn : narrow (tyF t k) v = v) (hfit : fits (tyF t k) v = true) (hB : kB κ ≤ r) (ht : gT G r = t)
    (kk : X κ d M q L st (sV G t k r v) a b Φ Ψ) : X κ d M pc L (v :: .ref r :: st) G a b Φ Ψ := by
  subst hq
  intro p e s m args below meth c H locs cells slots mc ms ls C0 hR hS hl ha hb
  obtain ⟨cell, q1, q2, q3, q4⟩ := hR.ob ht h0 hC
  obtain ⟨hSl, hfc, kC, hkC, hkind⟩ := C0.kn.1.1 t _ hC
  obtain ⟨cf, kf, fi, f, hi, hsl⟩ := hSl k hk
  have hlay := C0.ws _ (CL_in t _ hC _ (u_in_lay hk))
  have hst := (u_facts hfc hkC (u_lays C0.ws (CL_in t _ hC) hk) hi).1
  have hdt := CL_ty t _ hC k hk
  unfold u_lay at hlay
  rw [if_neg (by rw [hf]; decide)] at hlay
  have h6 := u_store hfc hkC hkind hlay hi hdt hn hfit
  refine va_WputK C0.ex C0.cd (f := f) C0.ow (C0.nest hw) hi hst (by rw [q2]; exact h6) q1 q3 (by rw [hsl]; exact k2_hasslot (q4 k hk)) rfl rfl hd fun H' e1 e2 e3 => ?_
  rw [hsl] at e1 ⊢
  exact kk p e s m args below meth c H' _ cells slots mc ms ls C0 (X_putA C0 hR hC h0 hk ht hB hv q2 q3 q4 e1 e2 e3) (hS.put e2 e3 hB) hl ha hb
end XH

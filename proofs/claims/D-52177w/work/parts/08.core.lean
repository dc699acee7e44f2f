/-! ===== CORE: a method's walk over a logical heap. X d M pc L st G a b Phi Psi: from pc of method M, with locals L, stack st, logical heap G, depth d, a cells and b slots left, the method returns with Phi or throws with Psi ===== -/
abbrev Gt : Type := (Nat → Nat) × (Nat → Nat → Nat → Int32) × (Nat → Nat → Nat → Option Nat) × (Nat → Nat) × (Nat → Nat → Int32) × (Nat → Nat → Int64) × (Nat → Nat → Option Nat)
/-- the kind of the cell at an address: 0 nothing known, below 100 an object of that class (CL), from 100 on an array -/
def gT (G : Gt) (a : Nat) : Nat := G.1 a
def gI (G : Gt) (c k a : Nat) : Int32 := G.2.1 c k a
def gR (G : Gt) (c k a : Nat) : Option Nat := G.2.2.1 c k a
def gL (G : Gt) (a : Nat) : Nat := G.2.2.2.1 a
def eI (G : Gt) (a i : Nat) : Int32 := G.2.2.2.2.1 a i
def eJ (G : Gt) (a i : Nat) : Int64 := G.2.2.2.2.2.1 a i
def eR (G : Gt) (a i : Nat) : Option Nat := G.2.2.2.2.2.2 a i
def sI (G : Gt) (c k a : Nat) (v : Int32) : Gt := (G.1, fun c' k' a' => if a' = a ∧ c' = c ∧ k' = k then v else G.2.1 c' k' a', G.2.2)
def sR (G : Gt) (c k a : Nat) (v : Option Nat) : Gt := (G.1, G.2.1, fun c' k' a' => if a' = a ∧ c' = c ∧ k' = k then v else G.2.2.1 c' k' a', G.2.2.2)
def wI (G : Gt) (a : Nat) (f : Nat → Int32) : Gt := (G.1, G.2.1, G.2.2.1, G.2.2.2.1, fun a' i => if a' = a then f i else G.2.2.2.2.1 a' i, G.2.2.2.2.2)
def wJ (G : Gt) (a : Nat) (f : Nat → Int64) : Gt := (G.1, G.2.1, G.2.2.1, G.2.2.2.1, G.2.2.2.2.1, fun a' i => if a' = a then f i else G.2.2.2.2.2.1 a' i, G.2.2.2.2.2.2)
def wR (G : Gt) (a : Nat) (f : Nat → Option Nat) : Gt := (G.1, G.2.1, G.2.2.1, G.2.2.2.1, G.2.2.2.2.1, G.2.2.2.2.2.1, fun a' i => if a' = a then f i else G.2.2.2.2.2.2 a' i)
def uI (G : Gt) (a i : Nat) (v : Int32) : Gt := wI G a (fun j => if j = i then v else eI G a j)
def uJ (G : Gt) (a i : Nat) (v : Int64) : Gt := wJ G a (fun j => if j = i then v else eJ G a j)
def uR (G : Gt) (a i : Nat) (v : Option Nat) : Gt := wR G a (fun j => if j = i then v else eR G a j)
/-- a new cell at q, of kind t, of length n, all zero -/
def nw (G : Gt) (q t n : Nat) : Gt := (fun a => if a = q then t else G.1 a, fun c k a => if a = q then 0 else G.2.1 c k a, fun c k a => if a = q then none else G.2.2.1 c k a, fun a => if a = q then n else G.2.2.2.1 a, fun a i => if a = q then 0 else G.2.2.2.2.1 a i, fun a i => if a = q then 0 else G.2.2.2.2.2.1 a i, fun a i => if a = q then none else G.2.2.2.2.2.2 a i)
theorem gT_sI (G : Gt) (c0 k0 a : Nat) (v : Int32) (b : Nat) : gT (sI G c0 k0 a v) b = gT G b := rfl
theorem gI_sI (G : Gt) (c0 k0 a : Nat) (v : Int32) (c k b : Nat) : gI (sI G c0 k0 a v) c k b = if b = a ∧ c = c0 ∧ k = k0 then v else gI G c k b := rfl
theorem gR_sI (G : Gt) (c0 k0 a : Nat) (v : Int32) (c k b : Nat) : gR (sI G c0 k0 a v) c k b = gR G c k b := rfl
theorem gL_sI (G : Gt) (c0 k0 a : Nat) (v : Int32) (b : Nat) : gL (sI G c0 k0 a v) b = gL G b := rfl
theorem eI_sI (G : Gt) (c0 k0 a : Nat) (v : Int32) (b i : Nat) : eI (sI G c0 k0 a v) b i = eI G b i := rfl
theorem eJ_sI (G : Gt) (c0 k0 a : Nat) (v : Int32) (b i : Nat) : eJ (sI G c0 k0 a v) b i = eJ G b i := rfl
theorem eR_sI (G : Gt) (c0 k0 a : Nat) (v : Int32) (b i : Nat) : eR (sI G c0 k0 a v) b i = eR G b i := rfl
theorem gT_sR (G : Gt) (c0 k0 a : Nat) (v : Option Nat) (b : Nat) : gT (sR G c0 k0 a v) b = gT G b := rfl
theorem gI_sR (G : Gt) (c0 k0 a : Nat) (v : Option Nat) (c k b : Nat) : gI (sR G c0 k0 a v) c k b = gI G c k b := rfl
theorem gR_sR (G : Gt) (c0 k0 a : Nat) (v : Option Nat) (c k b : Nat) : gR (sR G c0 k0 a v) c k b = if b = a ∧ c = c0 ∧ k = k0 then v else gR G c k b := rfl
theorem gL_sR (G : Gt) (c0 k0 a : Nat) (v : Option Nat) (b : Nat) : gL (sR G c0 k0 a v) b = gL G b := rfl
theorem eI_sR (G : Gt) (c0 k0 a : Nat) (v : Option Nat) (b i : Nat) : eI (sR G c0 k0 a v) b i = eI G b i := rfl
theorem eJ_sR (G : Gt) (c0 k0 a : Nat) (v : Option Nat) (b i : Nat) : eJ (sR G c0 k0 a v) b i = eJ G b i := rfl
theorem eR_sR (G : Gt) (c0 k0 a : Nat) (v : Option Nat) (b i : Nat) : eR (sR G c0 k0 a v) b i = eR G b i := rfl
theorem gT_wI (G : Gt) (a : Nat) (f : Nat → Int32) (b : Nat) : gT (wI G a f) b = gT G b := rfl
theorem gI_wI (G : Gt) (a : Nat) (f : Nat → Int32) (c k b : Nat) : gI (wI G a f) c k b = gI G c k b := rfl
theorem gR_wI (G : Gt) (a : Nat) (f : Nat → Int32) (c k b : Nat) : gR (wI G a f) c k b = gR G c k b := rfl
theorem gL_wI (G : Gt) (a : Nat) (f : Nat → Int32) (b : Nat) : gL (wI G a f) b = gL G b := rfl
theorem eI_wI (G : Gt) (a : Nat) (f : Nat → Int32) (b i : Nat) : eI (wI G a f) b i = if b = a then f i else eI G b i := rfl
theorem eJ_wI (G : Gt) (a : Nat) (f : Nat → Int32) (b i : Nat) : eJ (wI G a f) b i = eJ G b i := rfl
theorem eR_wI (G : Gt) (a : Nat) (f : Nat → Int32) (b i : Nat) : eR (wI G a f) b i = eR G b i := rfl
theorem gT_wJ (G : Gt) (a : Nat) (f : Nat → Int64) (b : Nat) : gT (wJ G a f) b = gT G b := rfl
theorem gI_wJ (G : Gt) (a : Nat) (f : Nat → Int64) (c k b : Nat) : gI (wJ G a f) c k b = gI G c k b := rfl
theorem gR_wJ (G : Gt) (a : Nat) (f : Nat → Int64) (c k b : Nat) : gR (wJ G a f) c k b = gR G c k b := rfl
theorem gL_wJ (G : Gt) (a : Nat) (f : Nat → Int64) (b : Nat) : gL (wJ G a f) b = gL G b := rfl
theorem eI_wJ (G : Gt) (a : Nat) (f : Nat → Int64) (b i : Nat) : eI (wJ G a f) b i = eI G b i := rfl
theorem eJ_wJ (G : Gt) (a : Nat) (f : Nat → Int64) (b i : Nat) : eJ (wJ G a f) b i = if b = a then f i else eJ G b i := rfl
theorem eR_wJ (G : Gt) (a : Nat) (f : Nat → Int64) (b i : Nat) : eR (wJ G a f) b i = eR G b i := rfl
theorem gT_wR (G : Gt) (a : Nat) (f : Nat → Option Nat) (b : Nat) : gT (wR G a f) b = gT G b := rfl
theorem gI_wR (G : Gt) (a : Nat) (f : Nat → Option Nat) (c k b : Nat) : gI (wR G a f) c k b = gI G c k b := rfl
theorem gR_wR (G : Gt) (a : Nat) (f : Nat → Option Nat) (c k b : Nat) : gR (wR G a f) c k b = gR G c k b := rfl
theorem gL_wR (G : Gt) (a : Nat) (f : Nat → Option Nat) (b : Nat) : gL (wR G a f) b = gL G b := rfl
theorem eI_wR (G : Gt) (a : Nat) (f : Nat → Option Nat) (b i : Nat) : eI (wR G a f) b i = eI G b i := rfl
theorem eJ_wR (G : Gt) (a : Nat) (f : Nat → Option Nat) (b i : Nat) : eJ (wR G a f) b i = eJ G b i := rfl
theorem eR_wR (G : Gt) (a : Nat) (f : Nat → Option Nat) (b i : Nat) : eR (wR G a f) b i = if b = a then f i else eR G b i := rfl
theorem gT_uI (G : Gt) (a j : Nat) (v : Int32) (b : Nat) : gT (uI G a j v) b = gT G b := rfl
theorem gI_uI (G : Gt) (a j : Nat) (v : Int32) (c k b : Nat) : gI (uI G a j v) c k b = gI G c k b := rfl
theorem gR_uI (G : Gt) (a j : Nat) (v : Int32) (c k b : Nat) : gR (uI G a j v) c k b = gR G c k b := rfl
theorem gL_uI (G : Gt) (a j : Nat) (v : Int32) (b : Nat) : gL (uI G a j v) b = gL G b := rfl
theorem eI_uI (G : Gt) (a j : Nat) (v : Int32) (b i : Nat) : eI (uI G a j v) b i = if b = a ∧ i = j then v else eI G b i := by
  show (if b = a then (if i = j then v else eI G a i) else eI G b i) = _
  by_cases h1 : b = a
  · subst h1
    by_cases h2 : i = j <;> simp [h2]
  · simp [h1]
theorem eJ_uI (G : Gt) (a j : Nat) (v : Int32) (b i : Nat) : eJ (uI G a j v) b i = eJ G b i := rfl
theorem eR_uI (G : Gt) (a j : Nat) (v : Int32) (b i : Nat) : eR (uI G a j v) b i = eR G b i := rfl
theorem gT_uJ (G : Gt) (a j : Nat) (v : Int64) (b : Nat) : gT (uJ G a j v) b = gT G b := rfl
theorem gI_uJ (G : Gt) (a j : Nat) (v : Int64) (c k b : Nat) : gI (uJ G a j v) c k b = gI G c k b := rfl
theorem gR_uJ (G : Gt) (a j : Nat) (v : Int64) (c k b : Nat) : gR (uJ G a j v) c k b = gR G c k b := rfl
theorem gL_uJ (G : Gt) (a j : Nat) (v : Int64) (b : Nat) : gL (uJ G a j v) b = gL G b := rfl
theorem eI_uJ (G : Gt) (a j : Nat) (v : Int64) (b i : Nat) : eI (uJ G a j v) b i = eI G b i := rfl
theorem eJ_uJ (G : Gt) (a j : Nat) (v : Int64) (b i : Nat) : eJ (uJ G a j v) b i = if b = a ∧ i = j then v else eJ G b i := by
  show (if b = a then (if i = j then v else eJ G a i) else eJ G b i) = _
  by_cases h1 : b = a
  · subst h1
    by_cases h2 : i = j <;> simp [h2]
  · simp [h1]
theorem eR_uJ (G : Gt) (a j : Nat) (v : Int64) (b i : Nat) : eR (uJ G a j v) b i = eR G b i := rfl
theorem gT_uR (G : Gt) (a j : Nat) (v : Option Nat) (b : Nat) : gT (uR G a j v) b = gT G b := rfl
theorem gI_uR (G : Gt) (a j : Nat) (v : Option Nat) (c k b : Nat) : gI (uR G a j v) c k b = gI G c k b := rfl
theorem gR_uR (G : Gt) (a j : Nat) (v : Option Nat) (c k b : Nat) : gR (uR G a j v) c k b = gR G c k b := rfl
theorem gL_uR (G : Gt) (a j : Nat) (v : Option Nat) (b : Nat) : gL (uR G a j v) b = gL G b := rfl
theorem eI_uR (G : Gt) (a j : Nat) (v : Option Nat) (b i : Nat) : eI (uR G a j v) b i = eI G b i := rfl
theorem eJ_uR (G : Gt) (a j : Nat) (v : Option Nat) (b i : Nat) : eJ (uR G a j v) b i = eJ G b i := rfl
theorem eR_uR (G : Gt) (a j : Nat) (v : Option Nat) (b i : Nat) : eR (uR G a j v) b i = if b = a ∧ i = j then v else eR G b i := by
  show (if b = a then (if i = j then v else eR G a i) else eR G b i) = _
  by_cases h1 : b = a
  · subst h1
    by_cases h2 : i = j <;> simp [h2]
  · simp [h1]
theorem gT_nw (G : Gt) (q t n : Nat) (b : Nat) : gT (nw G q t n) b = if b = q then t else gT G b := rfl
theorem gI_nw (G : Gt) (q t n : Nat) (c k b : Nat) : gI (nw G q t n) c k b = if b = q then 0 else gI G c k b := rfl
theorem gR_nw (G : Gt) (q t n : Nat) (c k b : Nat) : gR (nw G q t n) c k b = if b = q then none else gR G c k b := rfl
theorem gL_nw (G : Gt) (q t n : Nat) (b : Nat) : gL (nw G q t n) b = if b = q then n else gL G b := rfl
theorem eI_nw (G : Gt) (q t n : Nat) (b i : Nat) : eI (nw G q t n) b i = if b = q then 0 else eI G b i := rfl
theorem eJ_nw (G : Gt) (q t n : Nat) (b i : Nat) : eJ (nw G q t n) b i = if b = q then 0 else eJ G b i := rfl
theorem eR_nw (G : Gt) (q t n : Nat) (b i : Nat) : eR (nw G q t n) b i = if b = q then none else eR G b i := rfl
/-! the classes -/
def CL : List vw_C := [(RX12, TX12, 1), (RX1, TX1, 4), (RX2, TX2, 2), (RX3, TX3, 5), (RX11, TX11, 8), (RX12, TX12, 1), (RX24, TX24, 4), (RX7, TX7, 7), (RX8, TX8, 2), (RX9, TX9, 3), (RX10, TX10, 8), (RX13, TX13, 2), (RX14, TX14, 1), (RX15, TX15, 1), (RX17, TX17, 3), (RX23, TX23, 3), (RX19, TX19, 1), (RX20, TX20, 3), (RX21, TX21, 1), (RX22, TX22, 3), (RX4, TX4, 15), (RX5, TX5, 13), (RX6, TX6, 9), (RJ2, TJ2, 3), (RJ32, TJ32, 4), (RJ22, TJ22, 8), (RJ26, TJ26, 4), (RJ5, TJ5, 4), (RJ4, TJ4, 4), (RJ19, TJ19, 1), (RJ29, TJ29, 1)]
def tyF (t : Nat) : Nat → FieldType := match t with
  | 0 => tyX12 | 1 => tyX1 | 2 => tyX2 | 3 => tyX3 | 4 => tyX11 | 5 => tyX12 | 6 => tyX24 | 7 => tyX7 | 8 => tyX8 | 9 => tyX9 | 10 => tyX10 | 11 => tyX13 | 12 => tyX14 | 13 => tyX15 | 14 => tyX17 | 15 => tyX23 | 16 => tyX19 | 17 => tyX20 | 18 => tyX21 | 19 => tyX22 | 20 => tyX4 | 21 => tyX5 | 22 => tyX6 | 23 => tyJ2 | 24 => tyJ32 | 25 => tyJ22 | 26 => tyJ26 | 27 => tyJ5 | 28 => tyJ4 | 29 => tyJ19 | _ => tyJ29
/-- array kinds -/
def aTy (t : Nat) : FieldType := match t with
  | 100 => .int | 101 => .byte | 102 => .long | 103 => .object "java/lang/Object" | 104 => .object "java/util/HashMap$Node" | 105 => .object "java/lang/String" | 106 => .object "ShadowSpell$What" | _ => .object "java/lang/Integer"
theorem CL_in : ∀ (t : Nat) (r : vw_C), CL[t]? = some r → ∀ w ∈ u_ws r.1 r.2.1 r.2.2, w ∈ lw_all := by
  intro t r h
  have hl : t < 31 := (List.getElem?_eq_some_iff.mp h).1
  rcases t with _ | _ | _ | _ | _ | _ | _ | _ | _ | _ | _ | _ | _ | _ | _ | _ | _ | _ | _ | _ | _ | _ | _ | _ | _ | _ | _ | _ | _ | _ | _ | t
  · cases h; exact in_X12
  · cases h; exact in_X1
  · cases h; exact in_X2
  · cases h; exact in_X3
  · cases h; exact in_X11
  · cases h; exact in_X12
  · cases h; exact in_X24
  · cases h; exact in_X7
  · cases h; exact in_X8
  · cases h; exact in_X9
  · cases h; exact in_X10
  · cases h; exact in_X13
  · cases h; exact in_X14
  · cases h; exact in_X15
  · cases h; exact in_X17
  · cases h; exact in_X23
  · cases h; exact in_X19
  · cases h; exact in_X20
  · cases h; exact in_X21
  · cases h; exact in_X22
  · cases h; exact in_X4
  · cases h; exact in_X5
  · cases h; exact in_X6
  · cases h; exact in_J2
  · cases h; exact in_J32
  · cases h; exact in_J22
  · cases h; exact in_J26
  · cases h; exact in_J5
  · cases h; exact in_J4
  · cases h; exact in_J19
  · cases h; exact in_J29
  · omega
theorem CL_ty : ∀ (t : Nat) (r : vw_C), CL[t]? = some r → ∀ k, k < r.2.2 → parseFieldDescriptor (r.2.1 k).2.2.1 = some (tyF t k) := by
  intro t r h
  have hl : t < 31 := (List.getElem?_eq_some_iff.mp h).1
  rcases t with _ | _ | _ | _ | _ | _ | _ | _ | _ | _ | _ | _ | _ | _ | _ | _ | _ | _ | _ | _ | _ | _ | _ | _ | _ | _ | _ | _ | _ | _ | _ | t
  · cases h; exact tyX12_ok
  · cases h; exact tyX1_ok
  · cases h; exact tyX2_ok
  · cases h; exact tyX3_ok
  · cases h; exact tyX11_ok
  · cases h; exact tyX12_ok
  · cases h; exact tyX24_ok
  · cases h; exact tyX7_ok
  · cases h; exact tyX8_ok
  · cases h; exact tyX9_ok
  · cases h; exact tyX10_ok
  · cases h; exact tyX13_ok
  · cases h; exact tyX14_ok
  · cases h; exact tyX15_ok
  · cases h; exact tyX17_ok
  · cases h; exact tyX23_ok
  · cases h; exact tyX19_ok
  · cases h; exact tyX20_ok
  · cases h; exact tyX21_ok
  · cases h; exact tyX22_ok
  · cases h; exact tyX4_ok
  · cases h; exact tyX5_ok
  · cases h; exact tyX6_ok
  · cases h; exact tyJ2_ok
  · cases h; exact tyJ32_ok
  · cases h; exact tyJ22_ok
  · cases h; exact tyJ26_ok
  · cases h; exact tyJ5_ok
  · cases h; exact tyJ4_ok
  · cases h; exact tyJ19_ok
  · cases h; exact tyJ29_ok
  · omega
theorem CL_nm : ∀ (t : Nat) (r : vw_C), CL[t]? = some r → ∀ a, a < r.2.2 → ∀ b, b < r.2.2 → a ≠ b → (r.2.1 a).2.1 ≠ (r.2.1 b).2.1 := by
  intro t r h
  have hl : t < 31 := (List.getElem?_eq_some_iff.mp h).1
  rcases t with _ | _ | _ | _ | _ | _ | _ | _ | _ | _ | _ | _ | _ | _ | _ | _ | _ | _ | _ | _ | _ | _ | _ | _ | _ | _ | _ | _ | _ | _ | _ | t
  · cases h; exact nmX12
  · cases h; exact nmX1
  · cases h; exact nmX2
  · cases h; exact nmX3
  · cases h; exact nmX11
  · cases h; exact nmX12
  · cases h; exact nmX24
  · cases h; exact nmX7
  · cases h; exact nmX8
  · cases h; exact nmX9
  · cases h; exact nmX10
  · cases h; exact nmX13
  · cases h; exact nmX14
  · cases h; exact nmX15
  · cases h; exact nmX17
  · cases h; exact nmX23
  · cases h; exact nmX19
  · cases h; exact nmX20
  · cases h; exact nmX21
  · cases h; exact nmX22
  · cases h; exact nmX4
  · cases h; exact nmX5
  · cases h; exact nmX6
  · cases h; exact nmJ2
  · cases h; exact nmJ32
  · cases h; exact nmJ22
  · cases h; exact nmJ26
  · cases h; exact nmJ5
  · cases h; exact nmJ4
  · cases h; exact nmJ19
  · cases h; exact nmJ29
  · omega
/-! what the tables know of the classes and the arrays -/
def KnA (D : va_G) (U : State) : Prop := va_K D CL [] U ∧ (∀ t, 100 ≤ t → t < 108 → ArrOfT U (D.1 t) (aTy t)) ∧ (∀ t, 100 ≤ t → t < 105 → va_RA U (D.1 t) (aTy t))
theorem KnA.moved {D : va_G} {u U : State} (hvm : u.vm.Alike U.vm) (h : KnA D u) : KnA D U := ⟨va_K.moved hvm h.1, fun t h1 h2 => arrOfT_moved hvm (h.2.1 t h1 h2), fun t h1 h2 => va_RA.moved hvm (h.2.2 t h1 h2)⟩
def vOf (ty : FieldType) (i : Int32) (r : Option Nat) : Value := match ty with
  | .object _ => va_rf r
  | .array _ => va_rf r
  | .float => .float i.toUInt32
  | _ => .int i
def gV (G : Gt) (t a k : Nat) : Value := vOf (tyF t k) (gI G t k a) (gR G t k a)
def gC (G : Gt) (t a : Nat) : vp_A := if t = 102 then (gL G a, .inr (.inl (eJ G a))) else if 103 ≤ t then (gL G a, .inr (.inr (.inr (.inr (eR G a))))) else (gL G a, .inl (eI G a))
def cellR (D : va_G) (G : Gt) (a : Nat) (H : Heap) : Prop :=
  (gT G a < 100 → ∃ r : vw_C, CL[gT G a]? = some r ∧ t_OB a (D.1 (gT G a)) r.2.2 (D.2 (gT G a)) H (gV G (gT G a) a)) ∧
  (100 ≤ gT G a → gT G a < 108 ∧ H[a]? = some (vp_cell (D.1 (gT G a)) (gC G (gT G a) a)) ∧ gL G a < 2147483648 ∧ (gT G a = 101 → ∀ i, i < gL G a → fits .byte (.int (eI G a i)) = true))
/-- two logical heaps agree at an address -/
def agr (G G' : Gt) (a : Nat) : Prop := gT G a = gT G' a ∧ (∀ c k, gI G c k a = gI G' c k a) ∧ (∀ c k, gR G c k a = gR G' c k a) ∧ gL G a = gL G' a ∧ (∀ i, eI G a i = eI G' a i) ∧ (∀ i, eJ G a i = eJ G' a i) ∧ (∀ i, eR G a i = eR G' a i)
theorem agr.rf (G : Gt) (a : Nat) : agr G G a := ⟨rfl, fun _ _ => rfl, fun _ _ => rfl, rfl, fun _ => rfl, fun _ => rfl, fun _ => rfl⟩
theorem agr.trans {G1 G2 G3 : Gt} {a : Nat} (h : agr G1 G2 a) (h' : agr G2 G3 a) : agr G1 G3 a :=
  ⟨h.1.trans h'.1, fun c k => (h.2.1 c k).trans (h'.2.1 c k), fun c k => (h.2.2.1 c k).trans (h'.2.2.1 c k), h.2.2.2.1.trans h'.2.2.2.1, fun i => (h.2.2.2.2.1 i).trans (h'.2.2.2.2.1 i), fun i => (h.2.2.2.2.2.1 i).trans (h'.2.2.2.2.2.1 i), fun i => (h.2.2.2.2.2.2 i).trans (h'.2.2.2.2.2.2 i)⟩
theorem agr.symm {G1 G2 : Gt} {a : Nat} (h : agr G1 G2 a) : agr G2 G1 a :=
  ⟨h.1.symm, fun c k => (h.2.1 c k).symm, fun c k => (h.2.2.1 c k).symm, h.2.2.2.1.symm, fun i => (h.2.2.2.2.1 i).symm, fun i => (h.2.2.2.2.2.1 i).symm, fun i => (h.2.2.2.2.2.2 i).symm⟩
theorem cellR.of {D : va_G} {G G' : Gt} {a : Nat} {H H' : Heap} (h : cellR D G a H) (hg : agr G' G a) (hH : H'[a]? = H[a]?) : cellR D G' a H' := by
  obtain ⟨g1, g2, g3, g4, g5, g6, g7⟩ := hg
  have e2 : ∀ t, gV G' t a = gV G t a := fun t => by funext k; simp only [gV, g2, g3]
  have e3 : ∀ t, gC G' t a = gC G t a := fun t => by
    have f5 : eI G' a = eI G a := funext g5
    have f6 : eJ G' a = eJ G a := funext g6
    have f7 : eR G' a = eR G a := funext g7
    simp only [gC, g4, f5, f6, f7]
  refine ⟨fun ht => ?_, fun ht => ?_⟩
  · rw [g1] at ht ⊢
    obtain ⟨r, h1, h2⟩ := h.1 ht
    exact ⟨r, h1, by rw [e2]; exact h2.kept hH⟩
  · rw [g1] at ht ⊢
    rw [e3, hH, g4]
    obtain ⟨h1, h2, h3, h4⟩ := h.2 ht
    exact ⟨h1, h2, h3, fun z i hi => by rw [g5]; exact h4 z i hi⟩
/-- the fixed things: launch, the start's state and arguments, class ids, the logical heap of the start, addresses of constants and of texts -/
abbrev Kx : Type := Launch × State × Array Value × va_G × Gt × (Nat → Nat) × (Nat → Nat)
def kL (κ : Kx) : Launch := κ.1
def kS (κ : Kx) : State := κ.2.1
def kA (κ : Kx) : Array Value := κ.2.2.1
def kD (κ : Kx) : va_G := κ.2.2.2.1
def kG (κ : Kx) : Gt := κ.2.2.2.2.1
/-- the address of the constant object of a static field, by its number in the list STC -/
def kC (κ : Kx) : Nat → Nat := κ.2.2.2.2.2.1
/-- the address of a text constant, by its number in the list TXC -/
def kX (κ : Kx) : Nat → Nat := κ.2.2.2.2.2.2
def kB (κ : Kx) : Nat := (kS κ).heap.size
def kF (κ : Kx) : Nat → Prop := fun q => kB κ ≤ q
/-- the heap H is as G says -/
def Rp (κ : Kx) (G : Gt) (H : Heap) : Prop := (∀ a, gT G a ≠ 0 → cellR (kD κ) G a H) ∧ kB κ ≤ H.size ∧ (∀ a, a < kB κ → H[a]? = (kS κ).heap[a]?) ∧ (∀ a, a < kB κ → agr G (kG κ) a)
theorem Rp.lt {κ : Kx} {G : Gt} {H : Heap} (h : Rp κ G H) {a : Nat} (ha : gT G a ≠ 0) : a < H.size := by
  have hc := h.1 a ha
  by_cases ht : gT G a < 100
  · obtain ⟨r, -, cell, h2, -⟩ := hc.1 ht
    exact (Array.getElem?_eq_some_iff.mp h2).1
  · exact (Array.getElem?_eq_some_iff.mp (hc.2 (by omega)).2.1).1
/-- a method: own class, name, code, locals, answer, handlers -/
abbrev XM : Type := String × MethodName × ByteArray × Nat × Option FieldType × Option (List (Nat × Nat × Nat × Nat))
def mO (M : XM) : String := M.1
def mY (M : XM) : MethodName := M.2.1
def mB (M : XM) : ByteArray := M.2.2.1
def mN (M : XM) : Nat := M.2.2.2.1
def mR (M : XM) : Option FieldType := M.2.2.2.2.1
def mH (M : XM) : Option (List (Nat × Nat × Nat × Nat)) := M.2.2.2.2.2
def mW (M : XM) : Cond := match mH M with
  | none => Cond.code (mY M) (mB M) (mN M) (mR M)
  | some hh => Cond.codeWith (mY M) (mB M) (mN M) (mR M) hh
def rmX (d a b : Nat) : Room := { frames := d, cells := a, slots := b, locals := 40 * d + 20 }
/-! constants: statics that hold objects (by number), statics that hold ints, classes and fields of the constant objects, texts -/
def RST : List (String × String × String) := [("ShadowSpell$Sort", "NAME", "LShadowSpell$Sort;"), ("ShadowSpell$Sort", "KEY", "LShadowSpell$Sort;"), ("ShadowSpell$Sort", "NUMBER", "LShadowSpell$Sort;"), ("ShadowSpell$Sort", "SYMBOL", "LShadowSpell$Sort;"), ("ShadowSpell$Sort", "END", "LShadowSpell$Sort;"), ("ShadowSpell$Sort", "BAD", "LShadowSpell$Sort;"), ("ShadowSpell$Aspect", "TRANSIT", "LShadowSpell$Aspect;"), ("ShadowSpell$Aspect", "OPPOSITE", "LShadowSpell$Aspect;"), ("ShadowSpell$Sign", "PLUS", "LShadowSpell$Sign;"), ("ShadowSpell$Sign", "MINUS", "LShadowSpell$Sign;"), ("ShadowSpell$Sign", "TIMES", "LShadowSpell$Sign;"), ("ShadowSpell$Sign", "PARTED", "LShadowSpell$Sign;"), ("ShadowSpell$Sign", "REST", "LShadowSpell$Sign;"), ("ShadowSpell$Sign", "LEAST", "LShadowSpell$Sign;"), ("ShadowSpell$Sign", "MOST_OF", "LShadowSpell$Sign;"), ("ShadowSpell$What", "DAY", "LShadowSpell$What;"), ("ShadowSpell$What", "LENGTH", "LShadowSpell$What;"), ("ShadowSpell$What", "AT", "LShadowSpell$What;"), ("ShadowSpell$What", "LAP", "LShadowSpell$What;"), ("ShadowSpell$What", "GAP", "LShadowSpell$What;"), ("ShadowSpell$What", "ALL", "[LShadowSpell$What;"), ("ShadowSpell$Scanner", "KEYS", "[Ljava/lang/String;"), ("ShadowSpellModel", "WORDS", "[Ljava/lang/String;"), ("java/util/ArrayList", "DEFAULTCAPACITY_EMPTY_ELEMENTDATA", "[Ljava/lang/Object;"), ("java/lang/Integer$IntegerCache", "cache", "[Ljava/lang/Integer;"), ("java/util/Optional", "EMPTY", "Ljava/util/Optional;")]
def IST : List (String × String × String × Int32) := [("java/lang/String", "COMPACT_STRINGS", "Z", 1), ("java/lang/Integer$IntegerCache", "high", "I", 127)]
def OCS : List (Nat × String) := [(0, "ShadowSpell$Sort"), (1, "ShadowSpell$Sort"), (2, "ShadowSpell$Sort"), (3, "ShadowSpell$Sort"), (4, "ShadowSpell$Sort"), (5, "ShadowSpell$Sort"), (6, "ShadowSpell$Aspect$1"), (7, "ShadowSpell$Aspect$2"), (8, "ShadowSpell$Sign$1"), (9, "ShadowSpell$Sign$2"), (10, "ShadowSpell$Sign$3"), (11, "ShadowSpell$Sign$4"), (12, "ShadowSpell$Sign$5"), (13, "ShadowSpell$Sign$6"), (14, "ShadowSpell$Sign$7"), (15, "ShadowSpell$What$1"), (16, "ShadowSpell$What$2"), (17, "ShadowSpell$What$3"), (18, "ShadowSpell$What$4"), (19, "ShadowSpell$What$5")]
def OFI : List (Nat × String × String × String × Int32) := [(15, "ShadowSpell$What", "names", "I", 0), (16, "ShadowSpell$What", "names", "I", 0), (17, "ShadowSpell$What", "names", "I", 1), (18, "ShadowSpell$What", "names", "I", 1), (19, "ShadowSpell$What", "names", "I", 2)]
def OFT : List (Nat × String × String × String × Nat) := [(13, "ShadowSpell$Sign", "word", "Ljava/lang/String;", 20), (14, "ShadowSpell$Sign", "word", "Ljava/lang/String;", 21), (15, "ShadowSpell$What", "word", "Ljava/lang/String;", 15), (16, "ShadowSpell$What", "word", "Ljava/lang/String;", 16), (17, "ShadowSpell$What", "word", "Ljava/lang/String;", 12), (18, "ShadowSpell$What", "word", "Ljava/lang/String;", 13), (19, "ShadowSpell$What", "word", "Ljava/lang/String;", 14)]
def TXT : List String := ["planet", "rail", "speed", "from", "retro", "every", "alphabet", "when", "write", "of", "transit", "opposite", "at", "lap", "gap", "day", "length", "not", "and", "or", "min", "max", "", "()[];,+-*/%<>=", ";", "[", "]", "-", "(", ",", ")", "*", "/", "%", "+", "<>="]
/-- the bytes of the texts -/
def TXB : List (List Int32) := [[112, 108, 97, 110, 101, 116], [114, 97, 105, 108], [115, 112, 101, 101, 100], [102, 114, 111, 109], [114, 101, 116, 114, 111], [101, 118, 101, 114, 121], [97, 108, 112, 104, 97, 98, 101, 116], [119, 104, 101, 110], [119, 114, 105, 116, 101], [111, 102], [116, 114, 97, 110, 115, 105, 116], [111, 112, 112, 111, 115, 105, 116, 101], [97, 116], [108, 97, 112], [103, 97, 112], [100, 97, 121], [108, 101, 110, 103, 116, 104], [110, 111, 116], [97, 110, 100], [111, 114], [109, 105, 110], [109, 97, 120], [], [40, 41, 91, 93, 59, 44, 43, 45, 42, 47, 37, 60, 62, 61], [59], [91], [93], [45], [40], [44], [41], [42], [47], [37], [43], [60, 62, 61]]
/-- where texts stand in the constant pools: class, entry, number of the text -/
def TXC : List (String × Nat × Nat) := [("ShadowSpell$Scanner", 75, 22), ("ShadowSpell$Scanner", 104, 23), ("ShadowSpell$Reader", 144, 0), ("ShadowSpell$Reader", 159, 1), ("ShadowSpell$Reader", 164, 2), ("ShadowSpell$Reader", 166, 3), ("ShadowSpell$Reader", 168, 4), ("ShadowSpell$Reader", 170, 5), ("ShadowSpell$Reader", 172, 24), ("ShadowSpell$Reader", 148, 6), ("ShadowSpell$Reader", 213, 7), ("ShadowSpell$Reader", 254, 17), ("ShadowSpell$Reader", 264, 25), ("ShadowSpell$Reader", 266, 26), ("ShadowSpell$Reader", 276, 10), ("ShadowSpell$Reader", 278, 11), ("ShadowSpell$Reader", 312, 27), ("ShadowSpell$Reader", 378, 28), ("ShadowSpell$Reader", 380, 29), ("ShadowSpell$Reader", 382, 30), ("ShadowSpell$Reader", 331, 31), ("ShadowSpell$Reader", 333, 32), ("ShadowSpell$Reader", 335, 33), ("ShadowSpell$Reader", 310, 34), ("ShadowSpell$Reader", 300, 35), ("ShadowSpell$Reader", 252, 18), ("ShadowSpell$Reader", 247, 19), ("ShadowSpell$Reader", 222, 8), ("ShadowSpell$Reader", 228, 9), ("ShadowSpell$Scanner", 112, 0), ("ShadowSpell$Scanner", 114, 1), ("ShadowSpell$Scanner", 116, 2), ("ShadowSpell$Scanner", 118, 3), ("ShadowSpell$Scanner", 120, 4), ("ShadowSpell$Scanner", 122, 5), ("ShadowSpell$Scanner", 124, 6), ("ShadowSpell$Scanner", 126, 7), ("ShadowSpell$Scanner", 128, 8), ("ShadowSpell$Scanner", 130, 9), ("ShadowSpell$Scanner", 132, 10), ("ShadowSpell$Scanner", 134, 11), ("ShadowSpell$Scanner", 136, 12), ("ShadowSpell$Scanner", 137, 13), ("ShadowSpell$Scanner", 139, 14), ("ShadowSpell$Scanner", 141, 15), ("ShadowSpell$Scanner", 143, 16), ("ShadowSpell$Scanner", 144, 17), ("ShadowSpell$Scanner", 146, 18), ("ShadowSpell$Scanner", 148, 19), ("ShadowSpell$Scanner", 150, 20), ("ShadowSpell$Scanner", 152, 21), ("ShadowSpell$Sign", 83, 20), ("ShadowSpell$Sign", 89, 21), ("ShadowSpell$Sign", 65, 31), ("ShadowSpell$Sign", 71, 32), ("ShadowSpell$Sign", 77, 33), ("ShadowSpell$Sign", 51, 34), ("ShadowSpell$Sign", 59, 27), ("ShadowSpellModel", 312, 0), ("ShadowSpellModel", 313, 1), ("ShadowSpellModel", 315, 2), ("ShadowSpellModel", 317, 3), ("ShadowSpellModel", 318, 4), ("ShadowSpellModel", 320, 5), ("ShadowSpellModel", 322, 6), ("ShadowSpellModel", 324, 7), ("ShadowSpellModel", 326, 8), ("ShadowSpellModel", 328, 9), ("ShadowSpellModel", 329, 10), ("ShadowSpellModel", 331, 11), ("ShadowSpellModel", 333, 12), ("ShadowSpellModel", 335, 13), ("ShadowSpellModel", 336, 14), ("ShadowSpellModel", 338, 15), ("ShadowSpellModel", 339, 16), ("ShadowSpellModel", 340, 17), ("ShadowSpellModel", 342, 18), ("ShadowSpellModel", 344, 19), ("ShadowSpellModel", 346, 20), ("ShadowSpellModel", 347, 21), ("ShadowSpell$What", 49, 15), ("ShadowSpell$What", 57, 16), ("ShadowSpell$What", 63, 12), ("ShadowSpell$What", 69, 13), ("ShadowSpell$What", 75, 14)]
/-- pairs of classes of which the first is none of the second -/
def NCS : List (String × String) := [("java/util/HashMap$Node", "java/util/HashMap$TreeNode"), ("java/lang/StringBuilder", "java/lang/String"), ("java/lang/IllegalArgumentException", "java/lang/IndexOutOfBoundsException"), ("java/lang/IndexOutOfBoundsException", "java/lang/IllegalArgumentException")]
def Kok (κ : Kx) : Prop :=
  (kL κ).stackTraces = false ∧ KnA (kD κ) (kS κ) ∧ (∀ w ∈ lw_tbl, w.before (kA κ) (kS κ) = true) ∧
  (∀ (i : Nat) (q : String × String × String), RST[i]? = some q → va_Z q.1 q.2.1 q.2.2 (.ref (kC κ i)) (kF κ) (kS κ) (kS κ).heap) ∧
  (∀ q ∈ IST, va_Z q.1 q.2.1 q.2.2.1 (.int q.2.2.2) (kF κ) (kS κ) (kS κ).heap) ∧
  (∀ q ∈ OCS, va_O q.2 (kC κ q.1) (kF κ) (kS κ) (kS κ).heap) ∧
  (∀ q ∈ OFI, va_OF q.2.1 q.2.2.1 q.2.2.2.1 (.int q.2.2.2.2) (kC κ q.1) (kF κ) (kS κ) (kS κ).heap) ∧
  (∀ q ∈ OFT, va_OF q.2.1 q.2.2.1 q.2.2.2.1 (.ref (kX κ q.2.2.2.2)) (kC κ q.1) (kF κ) (kS κ) (kS κ).heap) ∧
  (∀ i j, i < 20 → j < 20 → kC κ i = kC κ j → i = j) ∧
  (∀ q ∈ TXC, ∃ tx, vk_R q.1 q.2.1 tx (kX κ q.2.2) (kS κ)) ∧
  vx_Zq Bundle.tN "UNASSIGNED_STACK" Bundle.steD (kF κ) (kS κ) (kS κ).heap ∧ vx_Zq Bundle.tN "SUPPRESSED_SENTINEL" Bundle.listD (kF κ) (kS κ) (kS κ).heap ∧
  (∀ j, j < TXB.length → kX κ j < kB κ ∧ gT (kG κ) (kX κ j) = 27 ∧ gI (kG κ) 27 1 (kX κ j) = 0 ∧ ∃ v, v < kB κ ∧ gR (kG κ) 27 0 (kX κ j) = some v ∧ gT (kG κ) v = 101 ∧ gL (kG κ) v = (TXB.getD j []).length ∧ ∀ i, i < (TXB.getD j []).length → eI (kG κ) v i = (TXB.getD j []).getD i 0) ∧
  (∀ i, i < 26 → kC κ i < kB κ) ∧
  (gT (kG κ) (kC κ 20) = 106 ∧ gL (kG κ) (kC κ 20) = 5 ∧ ∀ i, i < 5 → eR (kG κ) (kC κ 20) i = some (kC κ (15 + i))) ∧
  (gT (kG κ) (kC κ 21) = 105 ∧ gL (kG κ) (kC κ 21) = 22 ∧ ∀ i, i < 22 → eR (kG κ) (kC κ 21) i = some (kX κ i)) ∧
  (gT (kG κ) (kC κ 22) = 105 ∧ gL (kG κ) (kC κ 22) = 22 ∧ ∀ i, i < 22 → eR (kG κ) (kC κ 22) i = some (kX κ i)) ∧
  (gT (kG κ) (kC κ 23) = 103 ∧ gL (kG κ) (kC κ 23) = 0) ∧
  (gT (kG κ) (kC κ 24) = 107 ∧ gL (kG κ) (kC κ 24) = 256 ∧ ∀ i, i < 256 → ∃ r, r < kB κ ∧ eR (kG κ) (kC κ 24) i = some r ∧ gT (kG κ) r = 29 ∧ gI (kG κ) 29 0 r = nI i - 128) ∧
  (gT (kG κ) (kC κ 25) = 30 ∧ gR (kG κ) 30 0 (kC κ 25) = none) ∧ va_Mi "[Ljava/lang/Object;" (kC κ 26) (kS κ) ∧ (∀ q ∈ NCS, va_Nc q.1 q.2 (kS κ)) ∧ va_Zq "jdk/internal/util/Preconditions" "SIOOBE_FORMATTER" "Ljava/util/function/BiFunction;" (kF κ) (kS κ) (kS κ).heap ∧ ∀ a, gR (kG κ) 0 0 a = none
def Cx (κ : Kx) (M : XM) (p : Program) (s : State) (m : MethodId) (args : Array Value) (meth : Method) (c : Code) : Prop :=
  Kok κ ∧ p.tables.exec = Jvm.exec ∧ c.code = mB M ∧ meth.sig.returnType = mR M ∧ meth.locks = false ∧ c.maxLocals = mN M ∧ s.vm.findClass (mO M) = some m.cls ∧ (∀ w ∈ lw_all, w.before args s = true) ∧ (kS κ).WarmedH s.vm ∧ kB κ ≤ s.heap.size ∧ (∀ q, q < kB κ → s.heap[q]? = (kS κ).heap[q]?) ∧ meth.name = (mY M).name ∧ (mH M = none → ∀ x ∈ c.exceptionTable.toList, False) ∧ ∀ hh, mH M = some hh → c.exceptionTable.toList = tableOf hh
def en : Nat → List (Option Value) → List (Nat × Value)
  | _, [] => []
  | i, some v :: t => (i, v) :: en (i + 1) t
  | i, none :: t => en (i + 1) t
def QX (κ : Kx) (Φ : Option Value → Gt → Prop) : Array Value → State → Outcome → State → Prop := fun _ st o t => ∃ (r : Option Value) (G' : Gt), o = .returned r ∧ Φ r G' ∧ Rp κ G' t.heap ∧ va_F (kF κ) st t
def EX (κ : Kx) (Ψ : String → Nat → Gt → Prop) : String → Addr → State → State → Prop := fun E q st t => ∃ G' : Gt, Ψ E q G' ∧ Rp κ G' t.heap ∧ va_F (kF κ) st t
def X (κ : Kx) (d : Nat) (M : XM) (pc : Nat) (L : List (Option Value)) (st : List Value) (G : Gt) (a b : Nat) (Φ : Option Value → Gt → Prop) (Ψ : String → Nat → Gt → Prop) : Prop :=
  ∀ (p : Program) (e : Env) (s : State) (m : MethodId) (args : Array Value) (below : List Frame) (meth : Method) (c : Code) (H : Heap) (locs : List Loc) (cells slots mc ms : Nat) (ls : Array Slot),
    Cx κ M p s m args meth c → Rp κ G H → va_S (kF κ) s.heap H locs → lv_has ls (mN M) (en 0 L) → cells + a ≤ mc → slots + b ≤ ms →
    W p (kL κ) e (rmX d mc ms) s m args below meth c H locs cells slots (vx_MQ below (QX κ Φ) (EX κ Ψ) args s mc ms (kF κ)) (F0 m pc ls st)
theorem en_mem : ∀ (L : List (Option Value)) (i : Nat) (q : Nat × Value), q ∈ en i L ↔ ∃ j, q.1 = i + j ∧ L[j]? = some (some q.2)
  | [], i, q => by simp [en]
  | some v :: t, i, q => by
    rw [en, List.mem_cons, en_mem t (i + 1) q]
    constructor
    · rintro (rfl | ⟨j, h1, h2⟩)
      · exact ⟨0, rfl, rfl⟩
      · exact ⟨j + 1, by omega, h2⟩
    · rintro ⟨j, h1, h2⟩
      cases j with
      | zero => exact Or.inl (by simp at h2; exact Prod.ext h1 h2.symm)
      | succ j => exact Or.inr ⟨j, by omega, h2⟩
  | none :: t, i, q => by
    rw [en, en_mem t (i + 1) q]
    constructor
    · rintro ⟨j, h1, h2⟩
      exact ⟨j + 1, by omega, h2⟩
    · rintro ⟨j, h1, h2⟩
      cases j with
      | zero => simp at h2
      | succ j => exact ⟨j, by omega, h2⟩
theorem en_at {ls : Array Slot} {nL : Nat} {L : List (Option Value)} (h : lv_has ls nL (en 0 L)) {i : Nat} {v : Value} (hi : L[i]? = some (some v)) : ls[i]? = some (.val v) :=
  h.2.2 (i, v) ((en_mem L 0 (i, v)).mpr ⟨i, by simp, hi⟩)
def c1 : Option Value → Bool
  | some (.long _) => false
  | some (.double _) => false
  | _ => true
def cOk (L : List (Option Value)) (i : Nat) : Bool := match i with
  | 0 => true
  | j + 1 => c1 (L.getD j none)
theorem c1_cat {v : Value} (h : c1 (some v) = true) : v.category = 1 := by
  cases v <;> first | rfl | (simp [c1] at h)
theorem en_set {L : List (Option Value)} {i : Nat} {v : Value} (hc : cOk L i = true) : ∀ q ∈ en 0 (L.set i (some v)), q ∈ (i, v) :: (en 0 L).filter (fun q => !(q.1 == i) && !(q.1 + 1 == i && q.2.category == 2)) := by
  intro q hq
  obtain ⟨j, h1, h2⟩ := (en_mem _ 0 q).mp hq
  rw [List.getElem?_set] at h2
  by_cases hj : i = j
  · subst hj
    rw [if_pos rfl] at h2
    split at h2
    · simp at h2
      rw [List.mem_cons]
      exact Or.inl (Prod.ext (by simpa using h1) h2.symm)
    · cases h2
  · rw [if_neg hj] at h2
    refine List.mem_cons_of_mem _ (List.mem_filter.mpr ⟨(en_mem _ 0 q).mpr ⟨j, h1, h2⟩, ?_⟩)
    have hqi : q.1 ≠ i := by omega
    simp only [Bool.and_eq_true, Bool.not_eq_true', beq_eq_false_iff_ne, ne_eq, hqi, not_false_eq_true, true_and]
    rw [Bool.and_eq_false_iff]
    by_cases hp : q.1 + 1 = i
    · right
      subst hp
      have hj' : q.1 = j := by omega
      simp only [cOk] at hc
      have hd : L.getD q.1 none = some q.2 := by rw [List.getD_eq_getElem?_getD, hj', h2]; rfl
      rw [hd] at hc
      rw [c1_cat hc]; rfl
    · left
      simpa using hp
theorem en_set2 {L : List (Option Value)} {i : Nat} {v : Value} (hc : cOk L i = true) : ∀ q ∈ en 0 ((L.set i (some v)).set (i + 1) none), q ∈ (i, v) :: (en 0 L).filter (fun q => !(q.1 == i) && (!(q.1 == i + 1) && !(q.1 + 1 == i && q.2.category == 2))) := by
  intro q hq
  obtain ⟨j, h1, h2⟩ := (en_mem _ 0 q).mp hq
  rw [List.getElem?_set] at h2
  by_cases hj1 : i + 1 = j
  · rw [if_pos hj1] at h2
    split at h2 <;> simp at h2
  · rw [if_neg hj1] at h2
    have h3 : q ∈ en 0 (L.set i (some v)) := (en_mem _ 0 q).mpr ⟨j, h1, h2⟩
    rcases List.mem_cons.mp (en_set hc q h3) with h4 | h4
    · exact List.mem_cons.mpr (Or.inl h4)
    · obtain ⟨h5, h6⟩ := List.mem_filter.mp h4
      refine List.mem_cons_of_mem _ (List.mem_filter.mpr ⟨h5, ?_⟩)
      simp only [Bool.and_eq_true] at h6 ⊢
      refine ⟨h6.1, ?_, h6.2⟩
      have : q.1 ≠ i + 1 := by omega
      simpa using this
theorem has_of {ls : Array Slot} {nL : Nat} {l l' : List (Nat × Value)} (h : lv_has ls nL l) (hs : ∀ q ∈ l', q ∈ l) : lv_has ls nL l' := ⟨h.1, h.2.1, fun q hq => h.2.2 q (hs q hq)⟩

section XR
variable {κ : Kx} {d : Nat} {M : XM} {pc : Nat} {L : List (Option Value)} {st : List Value} {G : Gt} {a b : Nat} {Φ : Option Value → Gt → Prop} {Ψ : String → Nat → Gt → Prop}
theorem Cx.ex {κ : Kx} {M : XM} {p : Program} {s : State} {m : MethodId} {args : Array Value} {meth : Method} {c : Code} (C : Cx κ M p s m args meth c) : p.tables.exec = Jvm.exec := C.2.1
theorem Cx.cd {κ : Kx} {M : XM} {p : Program} {s : State} {m : MethodId} {args : Array Value} {meth : Method} {c : Code} (C : Cx κ M p s m args meth c) : c.code = mB M := C.2.2.1
theorem Cx.rt {κ : Kx} {M : XM} {p : Program} {s : State} {m : MethodId} {args : Array Value} {meth : Method} {c : Code} (C : Cx κ M p s m args meth c) : meth.sig.returnType = mR M := C.2.2.2.1
theorem Cx.lk {κ : Kx} {M : XM} {p : Program} {s : State} {m : MethodId} {args : Array Value} {meth : Method} {c : Code} (C : Cx κ M p s m args meth c) : meth.locks = false := C.2.2.2.2.1
theorem Cx.ml {κ : Kx} {M : XM} {p : Program} {s : State} {m : MethodId} {args : Array Value} {meth : Method} {c : Code} (C : Cx κ M p s m args meth c) : c.maxLocals = mN M := C.2.2.2.2.2.1
theorem Cx.ow {κ : Kx} {M : XM} {p : Program} {s : State} {m : MethodId} {args : Array Value} {meth : Method} {c : Code} (C : Cx κ M p s m args meth c) : s.vm.findClass (mO M) = some m.cls := C.2.2.2.2.2.2.1
theorem Cx.ws {κ : Kx} {M : XM} {p : Program} {s : State} {m : MethodId} {args : Array Value} {meth : Method} {c : Code} (C : Cx κ M p s m args meth c) : ∀ w ∈ lw_all, w.before args s = true := C.2.2.2.2.2.2.2.1
theorem Cx.wm {κ : Kx} {M : XM} {p : Program} {s : State} {m : MethodId} {args : Array Value} {meth : Method} {c : Code} (C : Cx κ M p s m args meth c) : (kS κ).WarmedH s.vm := C.2.2.2.2.2.2.2.2.1
theorem Cx.bs {κ : Kx} {M : XM} {p : Program} {s : State} {m : MethodId} {args : Array Value} {meth : Method} {c : Code} (C : Cx κ M p s m args meth c) : kB κ ≤ s.heap.size := C.2.2.2.2.2.2.2.2.2.1
theorem Cx.od {κ : Kx} {M : XM} {p : Program} {s : State} {m : MethodId} {args : Array Value} {meth : Method} {c : Code} (C : Cx κ M p s m args meth c) : ∀ q, q < kB κ → s.heap[q]? = (kS κ).heap[q]? := C.2.2.2.2.2.2.2.2.2.2.1
theorem Cx.nm {κ : Kx} {M : XM} {p : Program} {s : State} {m : MethodId} {args : Array Value} {meth : Method} {c : Code} (C : Cx κ M p s m args meth c) : meth.name = (mY M).name := C.2.2.2.2.2.2.2.2.2.2.2.1
theorem Cx.no {κ : Kx} {M : XM} {p : Program} {s : State} {m : MethodId} {args : Array Value} {meth : Method} {c : Code} (C : Cx κ M p s m args meth c) : mH M = none → ∀ x ∈ c.exceptionTable.toList, False := C.2.2.2.2.2.2.2.2.2.2.2.2.1
theorem Cx.tb {κ : Kx} {M : XM} {p : Program} {s : State} {m : MethodId} {args : Array Value} {meth : Method} {c : Code} (C : Cx κ M p s m args meth c) : ∀ hh, mH M = some hh → c.exceptionTable.toList = tableOf hh := C.2.2.2.2.2.2.2.2.2.2.2.2.2
theorem Cx.kn {κ : Kx} {M : XM} {p : Program} {s : State} {m : MethodId} {args : Array Value} {meth : Method} {c : Code} (C : Cx κ M p s m args meth c) : KnA (kD κ) s := KnA.moved C.wm.alike C.1.2.1
theorem X.more {a' b' : Nat} (h : X κ d M pc L st G a b Φ Ψ) (h1 : a ≤ a') (h2 : b ≤ b') : X κ d M pc L st G a' b' Φ Ψ := by
  intro p e s m args below meth c H locs cells slots mc ms ls C hR hS hl ha hb
  exact h p e s m args below meth c H locs cells slots mc ms ls C hR hS hl (by omega) (by omega)
theorem X.post {Φ' : Option Value → Gt → Prop} {Ψ' : String → Nat → Gt → Prop} (h : X κ d M pc L st G a b Φ' Ψ') (h1 : ∀ r G', Φ' r G' → Φ r G') (h2 : ∀ E q G', Ψ' E q G' → Ψ E q G') : X κ d M pc L st G a b Φ Ψ := by
  intro p e s m args below meth c H locs cells slots mc ms ls C hR hS hl ha hb
  intro T hT Y
  obtain ⟨t, a1, o, b1, b2, b3⟩ := h p e s m args below meth c H locs cells slots mc ms ls C hR hS hl ha hb T hT Y
  refine ⟨t, a1, o, b1, b2, ?_⟩
  rcases b3 with ⟨⟨r, G', e1, e2, e3⟩, e4⟩ | ⟨q, e1, E, ce, L9, ⟨G', f1, f2⟩, e3⟩
  · exact Or.inl ⟨⟨r, G', e1, h1 r G' e2, e3⟩, e4⟩
  · exact Or.inr ⟨q, e1, E, ce, L9, ⟨G', h2 E q G' f1, f2⟩, e3⟩
theorem X.at {pc' : Nat} (h : X κ d M pc' L st G a b Φ Ψ) (hp : pc' = pc) : X κ d M pc L st G a b Φ Ψ := hp ▸ h
theorem X_iconst {n : Int} {v : Int32} (q : Nat) (hd : decode (mB M) pc = .ok (.iconst n, 1)) (hq : pc + 1 = q) (hv : Int32.ofInt n = v) (k : X κ d M q L (.int v :: st) G a b Φ Ψ) : X κ d M pc L st G a b Φ Ψ := by
  subst hq
  intro p e s m args below meth c H locs cells slots mc ms ls C hR hS hl ha hb
  exact lv_iconst C.ex C.cd hd hv (k p e s m args below meth c H locs cells slots mc ms ls C hR hS hl ha hb)
theorem X_bipush {n : Int} {v : Int32} (q : Nat) (hd : decode (mB M) pc = .ok (.bipush n, 2)) (hq : pc + 2 = q) (hv : (Int8.ofInt n).toInt32 = v) (k : X κ d M q L (.int v :: st) G a b Φ Ψ) : X κ d M pc L st G a b Φ Ψ := by
  subst hq
  intro p e s m args below meth c H locs cells slots mc ms ls C hR hS hl ha hb
  exact lv_bipush C.ex C.cd hd hv (k p e s m args below meth c H locs cells slots mc ms ls C hR hS hl ha hb)
theorem X_sipush {n : Int} {v : Int32} (q : Nat) (hd : decode (mB M) pc = .ok (.sipush n, 3)) (hq : pc + 3 = q) (hv : (Int16.ofInt n).toInt32 = v) (k : X κ d M q L (.int v :: st) G a b Φ Ψ) : X κ d M pc L st G a b Φ Ψ := by
  subst hq
  intro p e s m args below meth c H locs cells slots mc ms ls C hR hS hl ha hb
  exact lv_sipush C.ex C.cd hd hv (k p e s m args below meth c H locs cells slots mc ms ls C hR hS hl ha hb)
theorem X_lconst {n : Fin 2} {v : Int64} (q : Nat) (hd : decode (mB M) pc = .ok (.lconst n, 1)) (hq : pc + 1 = q) (hv : Int64.ofNat (n : Nat) = v) (k : X κ d M q L (.long v :: st) G a b Φ Ψ) : X κ d M pc L st G a b Φ Ψ := by
  subst hq
  intro p e s m args below meth c H locs cells slots mc ms ls C hR hS hl ha hb
  exact lv_lconst C.ex C.cd hd hv (k p e s m args below meth c H locs cells slots mc ms ls C hR hS hl ha hb)
theorem X_null (q : Nat) (hd : decode (mB M) pc = .ok (.aconst_null, 1)) (hq : pc + 1 = q) (k : X κ d M q L (.null :: st) G a b Φ Ψ) : X κ d M pc L st G a b Φ Ψ := by
  subst hq
  intro p e s m args below meth c H locs cells slots mc ms ls C hR hS hl ha hb
  exact lv_null C.ex C.cd hd (k p e s m args below meth c H locs cells slots mc ms ls C hR hS hl ha hb)
theorem X_iadd {x y : Int32} (q : Nat) (hd : decode (mB M) pc = .ok (.iadd, 1)) (hq : pc + 1 = q) (k : X κ d M q L (.int (x + y) :: st) G a b Φ Ψ) : X κ d M pc L (.int y :: .int x :: st) G a b Φ Ψ := by
  subst hq
  intro p e s m args below meth c H locs cells slots mc ms ls C hR hS hl ha hb
  exact lv_iadd C.ex C.cd hd (k p e s m args below meth c H locs cells slots mc ms ls C hR hS hl ha hb)
theorem X_isub {x y : Int32} (q : Nat) (hd : decode (mB M) pc = .ok (.isub, 1)) (hq : pc + 1 = q) (k : X κ d M q L (.int (x - y) :: st) G a b Φ Ψ) : X κ d M pc L (.int y :: .int x :: st) G a b Φ Ψ := by
  subst hq
  intro p e s m args below meth c H locs cells slots mc ms ls C hR hS hl ha hb
  exact lv_isub C.ex C.cd hd (k p e s m args below meth c H locs cells slots mc ms ls C hR hS hl ha hb)
theorem X_imul {x y : Int32} (q : Nat) (hd : decode (mB M) pc = .ok (.imul, 1)) (hq : pc + 1 = q) (k : X κ d M q L (.int (x * y) :: st) G a b Φ Ψ) : X κ d M pc L (.int y :: .int x :: st) G a b Φ Ψ := by
  subst hq
  intro p e s m args below meth c H locs cells slots mc ms ls C hR hS hl ha hb
  exact lv_imul C.ex C.cd hd (k p e s m args below meth c H locs cells slots mc ms ls C hR hS hl ha hb)
theorem X_idiv {x y : Int32} (q : Nat) (hd : decode (mB M) pc = .ok (.idiv, 1)) (hq : pc + 1 = q) (hn : ¬ y = 0) (k : X κ d M q L (.int (x / y) :: st) G a b Φ Ψ) : X κ d M pc L (.int y :: .int x :: st) G a b Φ Ψ := by
  subst hq
  intro p e s m args below meth c H locs cells slots mc ms ls C hR hS hl ha hb
  exact lv_idiv C.ex C.cd hd hn (k p e s m args below meth c H locs cells slots mc ms ls C hR hS hl ha hb)
theorem X_irem {x y : Int32} (q : Nat) (hd : decode (mB M) pc = .ok (.irem, 1)) (hq : pc + 1 = q) (hn : ¬ y = 0) (k : X κ d M q L (.int (x - x / y * y) :: st) G a b Φ Ψ) : X κ d M pc L (.int y :: .int x :: st) G a b Φ Ψ := by
  subst hq
  intro p e s m args below meth c H locs cells slots mc ms ls C hR hS hl ha hb
  exact lv_irem C.ex C.cd hd hn (k p e s m args below meth c H locs cells slots mc ms ls C hR hS hl ha hb)
theorem X_iand {x y : Int32} (q : Nat) (hd : decode (mB M) pc = .ok (.iand, 1)) (hq : pc + 1 = q) (k : X κ d M q L (.int (x &&& y) :: st) G a b Φ Ψ) : X κ d M pc L (.int y :: .int x :: st) G a b Φ Ψ := by
  subst hq
  intro p e s m args below meth c H locs cells slots mc ms ls C hR hS hl ha hb
  exact lv_iand C.ex C.cd hd (k p e s m args below meth c H locs cells slots mc ms ls C hR hS hl ha hb)
theorem X_ior {x y : Int32} (q : Nat) (hd : decode (mB M) pc = .ok (.ior, 1)) (hq : pc + 1 = q) (k : X κ d M q L (.int (x ||| y) :: st) G a b Φ Ψ) : X κ d M pc L (.int y :: .int x :: st) G a b Φ Ψ := by
  subst hq
  intro p e s m args below meth c H locs cells slots mc ms ls C hR hS hl ha hb
  exact lv_ior C.ex C.cd hd (k p e s m args below meth c H locs cells slots mc ms ls C hR hS hl ha hb)
theorem X_ixor {x y : Int32} (q : Nat) (hd : decode (mB M) pc = .ok (.ixor, 1)) (hq : pc + 1 = q) (k : X κ d M q L (.int (x ^^^ y) :: st) G a b Φ Ψ) : X κ d M pc L (.int y :: .int x :: st) G a b Φ Ψ := by
  subst hq
  intro p e s m args below meth c H locs cells slots mc ms ls C hR hS hl ha hb
  exact lv_ixor C.ex C.cd hd (k p e s m args below meth c H locs cells slots mc ms ls C hR hS hl ha hb)
theorem X_ineg {x : Int32} (q : Nat) (hd : decode (mB M) pc = .ok (.ineg, 1)) (hq : pc + 1 = q) (k : X κ d M q L (.int (-x) :: st) G a b Φ Ψ) : X κ d M pc L (.int x :: st) G a b Φ Ψ := by
  subst hq
  intro p e s m args below meth c H locs cells slots mc ms ls C hR hS hl ha hb
  exact lv_ineg C.ex C.cd hd (k p e s m args below meth c H locs cells slots mc ms ls C hR hS hl ha hb)
theorem X_ishl {x y : Int32} (q : Nat) (hd : decode (mB M) pc = .ok (.ishl, 1)) (hq : pc + 1 = q) (k : X κ d M q L (.int (x <<< (y &&& 31)) :: st) G a b Φ Ψ) : X κ d M pc L (.int y :: .int x :: st) G a b Φ Ψ := by
  subst hq
  intro p e s m args below meth c H locs cells slots mc ms ls C hR hS hl ha hb
  exact lv_ishl C.ex C.cd hd (k p e s m args below meth c H locs cells slots mc ms ls C hR hS hl ha hb)
theorem X_ishr {x y : Int32} (q : Nat) (hd : decode (mB M) pc = .ok (.ishr, 1)) (hq : pc + 1 = q) (k : X κ d M q L (.int (x >>> (y &&& 31)) :: st) G a b Φ Ψ) : X κ d M pc L (.int y :: .int x :: st) G a b Φ Ψ := by
  subst hq
  intro p e s m args below meth c H locs cells slots mc ms ls C hR hS hl ha hb
  exact lv_ishr C.ex C.cd hd (k p e s m args below meth c H locs cells slots mc ms ls C hR hS hl ha hb)
theorem X_iushr {x y v : Int32} (q : Nat) (hd : decode (mB M) pc = .ok (.iushr, 1)) (hq : pc + 1 = q) (hv : (x.toUInt32 >>> (y.toUInt32 &&& Int32.toUInt32 31)).toInt32 = v) (k : X κ d M q L (.int v :: st) G a b Φ Ψ) : X κ d M pc L (.int y :: .int x :: st) G a b Φ Ψ := by
  subst hq
  intro p e s m args below meth c H locs cells slots mc ms ls C hR hS hl ha hb
  exact lv_iushr C.ex C.cd hd hv (k p e s m args below meth c H locs cells slots mc ms ls C hR hS hl ha hb)
theorem X_ladd {x y : Int64} (q : Nat) (hd : decode (mB M) pc = .ok (.ladd, 1)) (hq : pc + 1 = q) (k : X κ d M q L (.long (x + y) :: st) G a b Φ Ψ) : X κ d M pc L (.long y :: .long x :: st) G a b Φ Ψ := by
  subst hq
  intro p e s m args below meth c H locs cells slots mc ms ls C hR hS hl ha hb
  exact lv_ladd C.ex C.cd hd (k p e s m args below meth c H locs cells slots mc ms ls C hR hS hl ha hb)
theorem X_lmul {x y : Int64} (q : Nat) (hd : decode (mB M) pc = .ok (.lmul, 1)) (hq : pc + 1 = q) (k : X κ d M q L (.long (x * y) :: st) G a b Φ Ψ) : X κ d M pc L (.long y :: .long x :: st) G a b Φ Ψ := by
  subst hq
  intro p e s m args below meth c H locs cells slots mc ms ls C hR hS hl ha hb
  exact lv_lmul C.ex C.cd hd (k p e s m args below meth c H locs cells slots mc ms ls C hR hS hl ha hb)
theorem X_i2l {x : Int32} {v : Int64} (q : Nat) (hd : decode (mB M) pc = .ok (.i2l, 1)) (hq : pc + 1 = q) (hv : x.toInt64 = v) (k : X κ d M q L (.long v :: st) G a b Φ Ψ) : X κ d M pc L (.int x :: st) G a b Φ Ψ := by
  subst hq
  intro p e s m args below meth c H locs cells slots mc ms ls C hR hS hl ha hb
  exact lv_i2l C.ex C.cd hd hv (k p e s m args below meth c H locs cells slots mc ms ls C hR hS hl ha hb)
theorem X_i2b {x v : Int32} (q : Nat) (hd : decode (mB M) pc = .ok (.i2b, 1)) (hq : pc + 1 = q) (hv : x.toInt8.toInt32 = v) (k : X κ d M q L (.int v :: st) G a b Φ Ψ) : X κ d M pc L (.int x :: st) G a b Φ Ψ := by
  subst hq
  intro p e s m args below meth c H locs cells slots mc ms ls C hR hS hl ha hb
  exact lv_i2b C.ex C.cd hd hv (k p e s m args below meth c H locs cells slots mc ms ls C hR hS hl ha hb)
theorem X_i2c {x v : Int32} (q : Nat) (hd : decode (mB M) pc = .ok (.i2c, 1)) (hq : pc + 1 = q) (hv : (x.toUInt32 % 65536).toInt32 = v) (k : X κ d M q L (.int v :: st) G a b Φ Ψ) : X κ d M pc L (.int x :: st) G a b Φ Ψ := by
  subst hq
  intro p e s m args below meth c H locs cells slots mc ms ls C hR hS hl ha hb
  exact lv_i2c C.ex C.cd hd hv (k p e s m args below meth c H locs cells slots mc ms ls C hR hS hl ha hb)
theorem X_lcmp {x y : Int64} (q : Nat) (hd : decode (mB M) pc = .ok (.lcmp, 1)) (hq : pc + 1 = q) (k : X κ d M q L (.int (lg_cmp x y) :: st) G a b Φ Ψ) : X κ d M pc L (.long y :: .long x :: st) G a b Φ Ψ := by
  subst hq
  intro p e s m args below meth c H locs cells slots mc ms ls C hR hS hl ha hb
  exact W.lcmp C.ex C.cd hd (k p e s m args below meth c H locs cells slots mc ms ls C hR hS hl ha hb)
theorem X_dup {va : Value} (q : Nat) (hd : decode (mB M) pc = .ok (.dup, 1)) (hq : pc + 1 = q) (hc : va.category = 1) (k : X κ d M q L (va :: va :: st) G a b Φ Ψ) : X κ d M pc L (va :: st) G a b Φ Ψ := by
  subst hq
  intro p e s m args below meth c H locs cells slots mc ms ls C hR hS hl ha hb
  exact lv_dup C.ex C.cd hd hc (k p e s m args below meth c H locs cells slots mc ms ls C hR hS hl ha hb)
theorem X_pop {va : Value} (q : Nat) (hd : decode (mB M) pc = .ok (.pop, 1)) (hq : pc + 1 = q) (hc : va.category = 1) (k : X κ d M q L st G a b Φ Ψ) : X κ d M pc L (va :: st) G a b Φ Ψ := by
  subst hq
  intro p e s m args below meth c H locs cells slots mc ms ls C hR hS hl ha hb
  exact lv_pop C.ex C.cd hd hc (k p e s m args below meth c H locs cells slots mc ms ls C hR hS hl ha hb)
theorem X_dup_x1 {va vb : Value} (q : Nat) (hd : decode (mB M) pc = .ok (.dup_x1, 1)) (hq : pc + 1 = q) (hc : va.category = 1) (hc2 : vb.category = 1) (k : X κ d M q L (va :: vb :: va :: st) G a b Φ Ψ) : X κ d M pc L (va :: vb :: st) G a b Φ Ψ := by
  subst hq
  intro p e s m args below meth c H locs cells slots mc ms ls C hR hS hl ha hb
  exact lv_dup_x1 C.ex C.cd hd hc hc2 (k p e s m args below meth c H locs cells slots mc ms ls C hR hS hl ha hb)
theorem X_dup2 {va vb : Value} (q : Nat) (hd : decode (mB M) pc = .ok (.dup2, 1)) (hq : pc + 1 = q) (hc : va.category = 1) (hc2 : vb.category = 1) (k : X κ d M q L (va :: vb :: va :: vb :: st) G a b Φ Ψ) : X κ d M pc L (va :: vb :: st) G a b Φ Ψ := by
  subst hq
  intro p e s m args below meth c H locs cells slots mc ms ls C hR hS hl ha hb
  exact lv_dup2_11 C.ex C.cd hd hc hc2 (k p e s m args below meth c H locs cells slots mc ms ls C hR hS hl ha hb)
theorem X_dup_x2 {va vb vc : Value} (q : Nat) (hd : decode (mB M) pc = .ok (.dup_x2, 1)) (hq : pc + 1 = q) (hc : va.category = 1) (hc2 : vb.category = 1) (hc3 : vc.category = 1) (k : X κ d M q L (va :: vb :: vc :: va :: st) G a b Φ Ψ) : X κ d M pc L (va :: vb :: vc :: st) G a b Φ Ψ := by
  subst hq
  intro p e s m args below meth c H locs cells slots mc ms ls C hR hS hl ha hb
  exact lv_dup_x2 C.ex C.cd hd hc hc2 hc3 (k p e s m args below meth c H locs cells slots mc ms ls C hR hS hl ha hb)
theorem X_iload_n {k : Fin 4} {x : Int32} (q : Nat) (hd : decode (mB M) pc = .ok (.iload_n k, 1)) (hq : pc + 1 = q) (hi : L[(k : Nat)]? = some (some (.int x))) (kk : X κ d M q L (.int x :: st) G a b Φ Ψ) : X κ d M pc L st G a b Φ Ψ := by
  subst hq
  intro p e s m args below meth c H locs cells slots mc ms ls C hR hS hl ha hb
  exact lv_iload_n C.ex C.cd hd rfl (en_at hl hi) (kk p e s m args below meth c H locs cells slots mc ms ls C hR hS hl ha hb)
theorem X_iload {i : Nat} {x : Int32} (q : Nat) (hd : decode (mB M) pc = .ok (.iload i, 2)) (hq : pc + 2 = q) (hi : L[i]? = some (some (.int x))) (kk : X κ d M q L (.int x :: st) G a b Φ Ψ) : X κ d M pc L st G a b Φ Ψ := by
  subst hq
  intro p e s m args below meth c H locs cells slots mc ms ls C hR hS hl ha hb
  exact lv_iload C.ex C.cd hd (en_at hl hi) (kk p e s m args below meth c H locs cells slots mc ms ls C hR hS hl ha hb)
theorem X_lload_n {k : Fin 4} {x : Int64} (q : Nat) (hd : decode (mB M) pc = .ok (.lload_n k, 1)) (hq : pc + 1 = q) (hi : L[(k : Nat)]? = some (some (.long x))) (kk : X κ d M q L (.long x :: st) G a b Φ Ψ) : X κ d M pc L st G a b Φ Ψ := by
  subst hq
  intro p e s m args below meth c H locs cells slots mc ms ls C hR hS hl ha hb
  exact lv_lload_n C.ex C.cd hd rfl (en_at hl hi) (kk p e s m args below meth c H locs cells slots mc ms ls C hR hS hl ha hb)
theorem X_lload {i : Nat} {x : Int64} (q : Nat) (hd : decode (mB M) pc = .ok (.lload i, 2)) (hq : pc + 2 = q) (hi : L[i]? = some (some (.long x))) (kk : X κ d M q L (.long x :: st) G a b Φ Ψ) : X κ d M pc L st G a b Φ Ψ := by
  subst hq
  intro p e s m args below meth c H locs cells slots mc ms ls C hR hS hl ha hb
  exact lv_lload C.ex C.cd hd (en_at hl hi) (kk p e s m args below meth c H locs cells slots mc ms ls C hR hS hl ha hb)
theorem X_aload_n {k : Fin 4} {x : Nat} (q : Nat) (hd : decode (mB M) pc = .ok (.aload_n k, 1)) (hq : pc + 1 = q) (hi : L[(k : Nat)]? = some (some (.ref x))) (kk : X κ d M q L (.ref x :: st) G a b Φ Ψ) : X κ d M pc L st G a b Φ Ψ := by
  subst hq
  intro p e s m args below meth c H locs cells slots mc ms ls C hR hS hl ha hb
  exact lv_aload_n C.ex C.cd hd rfl (en_at hl hi) (kk p e s m args below meth c H locs cells slots mc ms ls C hR hS hl ha hb)
theorem X_aload {i : Nat} {x : Nat} (q : Nat) (hd : decode (mB M) pc = .ok (.aload i, 2)) (hq : pc + 2 = q) (hi : L[i]? = some (some (.ref x))) (kk : X κ d M q L (.ref x :: st) G a b Φ Ψ) : X κ d M pc L st G a b Φ Ψ := by
  subst hq
  intro p e s m args below meth c H locs cells slots mc ms ls C hR hS hl ha hb
  exact lv_aload C.ex C.cd hd (en_at hl hi) (kk p e s m args below meth c H locs cells slots mc ms ls C hR hS hl ha hb)
theorem X_dload_n {k : Fin 4} {x : UInt64} (q : Nat) (hd : decode (mB M) pc = .ok (.dload_n k, 1)) (hq : pc + 1 = q) (hi : L[(k : Nat)]? = some (some (.double x))) (kk : X κ d M q L (.double x :: st) G a b Φ Ψ) : X κ d M pc L st G a b Φ Ψ := by
  subst hq
  intro p e s m args below meth c H locs cells slots mc ms ls C hR hS hl ha hb
  exact lv_dload_n C.ex C.cd hd rfl (en_at hl hi) (kk p e s m args below meth c H locs cells slots mc ms ls C hR hS hl ha hb)
theorem X_dload {i : Nat} {x : UInt64} (q : Nat) (hd : decode (mB M) pc = .ok (.dload i, 2)) (hq : pc + 2 = q) (hi : L[i]? = some (some (.double x))) (kk : X κ d M q L (.double x :: st) G a b Φ Ψ) : X κ d M pc L st G a b Φ Ψ := by
  subst hq
  intro p e s m args below meth c H locs cells slots mc ms ls C hR hS hl ha hb
  exact lv_dload C.ex C.cd hd (en_at hl hi) (kk p e s m args below meth c H locs cells slots mc ms ls C hR hS hl ha hb)
theorem X_aloadN_n {k : Fin 4} (q : Nat) (hd : decode (mB M) pc = .ok (.aload_n k, 1)) (hq : pc + 1 = q) (hi : L[(k : Nat)]? = some (some .null)) (kk : X κ d M q L (.null :: st) G a b Φ Ψ) : X κ d M pc L st G a b Φ Ψ := by
  subst hq
  intro p e s m args below meth c H locs cells slots mc ms ls C hR hS hl ha hb
  exact lv_aload_nN C.ex C.cd hd rfl (en_at hl hi) (kk p e s m args below meth c H locs cells slots mc ms ls C hR hS hl ha hb)
theorem X_aloadN {i : Nat} (q : Nat) (hd : decode (mB M) pc = .ok (.aload i, 2)) (hq : pc + 2 = q) (hi : L[i]? = some (some .null)) (kk : X κ d M q L (.null :: st) G a b Φ Ψ) : X κ d M pc L st G a b Φ Ψ := by
  subst hq
  intro p e s m args below meth c H locs cells slots mc ms ls C hR hS hl ha hb
  exact lv_aloadN C.ex C.cd hd (en_at hl hi) (kk p e s m args below meth c H locs cells slots mc ms ls C hR hS hl ha hb)
theorem X_istore_n {k : Fin 4} {x : Int32} (q : Nat) (hd : decode (mB M) pc = .ok (.istore_n k, 1)) (hq : pc + 1 = q) (hn : (k : Nat) < mN M) (hc : cOk L (k : Nat) = true) (kk : X κ d M q (L.set (k : Nat) (some (.int x))) st G a b Φ Ψ) : X κ d M pc L (.int x :: st) G a b Φ Ψ := by
  subst hq
  intro p e s m args below meth c H locs cells slots mc ms ls C hR hS hl ha hb
  exact lv_istore_n C.ex C.cd hd rfl hl hn rfl (fun ls' hl' => kk p e s m args below meth c H locs cells slots mc ms ls' C hR hS (has_of hl' (en_set hc)) ha hb)
theorem X_istore {i : Nat} {x : Int32} (q : Nat) (hd : decode (mB M) pc = .ok (.istore i, 2)) (hq : pc + 2 = q) (hn : i < mN M) (hc : cOk L i = true) (kk : X κ d M q (L.set i (some (.int x))) st G a b Φ Ψ) : X κ d M pc L (.int x :: st) G a b Φ Ψ := by
  subst hq
  intro p e s m args below meth c H locs cells slots mc ms ls C hR hS hl ha hb
  exact lv_istore C.ex C.cd hd hl hn rfl (fun ls' hl' => kk p e s m args below meth c H locs cells slots mc ms ls' C hR hS (has_of hl' (en_set hc)) ha hb)
theorem X_astore_n {k : Fin 4} {x : Nat} (q : Nat) (hd : decode (mB M) pc = .ok (.astore_n k, 1)) (hq : pc + 1 = q) (hn : (k : Nat) < mN M) (hc : cOk L (k : Nat) = true) (kk : X κ d M q (L.set (k : Nat) (some (.ref x))) st G a b Φ Ψ) : X κ d M pc L (.ref x :: st) G a b Φ Ψ := by
  subst hq
  intro p e s m args below meth c H locs cells slots mc ms ls C hR hS hl ha hb
  exact lv_astore_n C.ex C.cd hd rfl hl hn rfl (fun ls' hl' => kk p e s m args below meth c H locs cells slots mc ms ls' C hR hS (has_of hl' (en_set hc)) ha hb)
theorem X_astore {i : Nat} {x : Nat} (q : Nat) (hd : decode (mB M) pc = .ok (.astore i, 2)) (hq : pc + 2 = q) (hn : i < mN M) (hc : cOk L i = true) (kk : X κ d M q (L.set i (some (.ref x))) st G a b Φ Ψ) : X κ d M pc L (.ref x :: st) G a b Φ Ψ := by
  subst hq
  intro p e s m args below meth c H locs cells slots mc ms ls C hR hS hl ha hb
  exact lv_astore C.ex C.cd hd hl hn rfl (fun ls' hl' => kk p e s m args below meth c H locs cells slots mc ms ls' C hR hS (has_of hl' (en_set hc)) ha hb)
theorem X_astoreN_n {k : Fin 4} (q : Nat) (hd : decode (mB M) pc = .ok (.astore_n k, 1)) (hq : pc + 1 = q) (hn : (k : Nat) < mN M) (hc : cOk L (k : Nat) = true) (kk : X κ d M q (L.set (k : Nat) (some .null)) st G a b Φ Ψ) : X κ d M pc L (.null :: st) G a b Φ Ψ := by
  subst hq
  intro p e s m args below meth c H locs cells slots mc ms ls C hR hS hl ha hb
  exact lv_astore_nN C.ex C.cd hd rfl hl hn rfl (fun ls' hl' => kk p e s m args below meth c H locs cells slots mc ms ls' C hR hS (has_of hl' (en_set hc)) ha hb)
theorem X_astoreN {i : Nat} (q : Nat) (hd : decode (mB M) pc = .ok (.astore i, 2)) (hq : pc + 2 = q) (hn : i < mN M) (hc : cOk L i = true) (kk : X κ d M q (L.set i (some .null)) st G a b Φ Ψ) : X κ d M pc L (.null :: st) G a b Φ Ψ := by
  subst hq
  intro p e s m args below meth c H locs cells slots mc ms ls C hR hS hl ha hb
  exact lv_astoreN C.ex C.cd hd hl hn rfl (fun ls' hl' => kk p e s m args below meth c H locs cells slots mc ms ls' C hR hS (has_of hl' (en_set hc)) ha hb)
theorem X_lstore_n {k : Fin 4} {x : Int64} (q : Nat) (hd : decode (mB M) pc = .ok (.lstore_n k, 1)) (hq : pc + 1 = q) (hn : (k : Nat) + 1 < mN M) (hc : cOk L (k : Nat) = true) (kk : X κ d M q ((L.set (k : Nat) (some (.long x))).set ((k : Nat) + 1) none) st G a b Φ Ψ) : X κ d M pc L (.long x :: st) G a b Φ Ψ := by
  subst hq
  intro p e s m args below meth c H locs cells slots mc ms ls C hR hS hl ha hb
  exact lv_lstore_n C.ex C.cd hd rfl hl hn rfl (fun ls' hl' => kk p e s m args below meth c H locs cells slots mc ms ls' C hR hS (has_of hl' (en_set2 hc)) ha hb)
theorem X_lstore {i : Nat} {x : Int64} (q : Nat) (hd : decode (mB M) pc = .ok (.lstore i, 2)) (hq : pc + 2 = q) (hn : i + 1 < mN M) (hc : cOk L i = true) (kk : X κ d M q ((L.set i (some (.long x))).set (i + 1) none) st G a b Φ Ψ) : X κ d M pc L (.long x :: st) G a b Φ Ψ := by
  subst hq
  intro p e s m args below meth c H locs cells slots mc ms ls C hR hS hl ha hb
  exact lv_lstore C.ex C.cd hd hl hn rfl (fun ls' hl' => kk p e s m args below meth c H locs cells slots mc ms ls' C hR hS (has_of hl' (en_set2 hc)) ha hb)
theorem X_dstore_n {k : Fin 4} {x : UInt64} (q : Nat) (hd : decode (mB M) pc = .ok (.dstore_n k, 1)) (hq : pc + 1 = q) (hn : (k : Nat) + 1 < mN M) (hc : cOk L (k : Nat) = true) (kk : X κ d M q ((L.set (k : Nat) (some (.double x))).set ((k : Nat) + 1) none) st G a b Φ Ψ) : X κ d M pc L (.double x :: st) G a b Φ Ψ := by
  subst hq
  intro p e s m args below meth c H locs cells slots mc ms ls C hR hS hl ha hb
  exact lv_dstore_n C.ex C.cd hd rfl hl hn rfl (fun ls' hl' => kk p e s m args below meth c H locs cells slots mc ms ls' C hR hS (has_of hl' (en_set2 hc)) ha hb)
theorem X_dstore {i : Nat} {x : UInt64} (q : Nat) (hd : decode (mB M) pc = .ok (.dstore i, 2)) (hq : pc + 2 = q) (hn : i + 1 < mN M) (hc : cOk L i = true) (kk : X κ d M q ((L.set i (some (.double x))).set (i + 1) none) st G a b Φ Ψ) : X κ d M pc L (.double x :: st) G a b Φ Ψ := by
  subst hq
  intro p e s m args below meth c H locs cells slots mc ms ls C hR hS hl ha hb
  exact lv_dstore C.ex C.cd hd hl hn rfl (fun ls' hl' => kk p e s m args below meth c H locs cells slots mc ms ls' C hR hS (has_of hl' (en_set2 hc)) ha hb)
theorem X_iinc {i : Nat} {n : Int} {x v : Int32} (q : Nat) (hd : decode (mB M) pc = .ok (.iinc i n, 3)) (hq : pc + 3 = q) (hi : L[i]? = some (some (.int x))) (hv : x + Int32.ofInt n = v) (hn : i < mN M) (hc : cOk L i = true) (kk : X κ d M q (L.set i (some (.int v))) st G a b Φ Ψ) : X κ d M pc L st G a b Φ Ψ := by
  subst hq
  intro p e s m args below meth c H locs cells slots mc ms ls C hR hS hl ha hb
  obtain ⟨j, hj⟩ := List.getElem?_of_mem ((en_mem L 0 (i, .int x)).mpr ⟨i, by simp, hi⟩)
  exact lv_iinc C.ex C.cd hd hl hj hv hn rfl (fun ls' hl' => kk p e s m args below meth c H locs cells slots mc ms ls' C hR hS (has_of hl' (en_set hc)) ha hb)
theorem X_if_eq {x : Int32} {off : Int} (tg q : Nat) (hd : decode (mB M) pc = .ok (.ifCond .eq off, 3)) (ht : (pc : Int) + off = (tg : Int)) (hq : pc + 3 = q) (kt : x = 0 → X κ d M tg L st G a b Φ Ψ) (kf : ¬ x = 0 → X κ d M q L st G a b Φ Ψ) : X κ d M pc L (.int x :: st) G a b Φ Ψ := by
  subst hq
  intro p e s m args below meth c H locs cells slots mc ms ls C hR hS hl ha hb
  exact lv_if_eq C.ex C.cd hd ht (fun z => kt z p e s m args below meth c H locs cells slots mc ms ls C hR hS hl ha hb) (fun z => kf z p e s m args below meth c H locs cells slots mc ms ls C hR hS hl ha hb)
theorem X_icmp_eq {x y : Int32} {off : Int} (tg q : Nat) (hd : decode (mB M) pc = .ok (.if_icmp .eq off, 3)) (ht : (pc : Int) + off = (tg : Int)) (hq : pc + 3 = q) (kt : x = y → X κ d M tg L st G a b Φ Ψ) (kf : ¬ x = y → X κ d M q L st G a b Φ Ψ) : X κ d M pc L (.int y :: .int x :: st) G a b Φ Ψ := by
  subst hq
  intro p e s m args below meth c H locs cells slots mc ms ls C hR hS hl ha hb
  exact lv_icmp_eq C.ex C.cd hd ht (fun z => kt z p e s m args below meth c H locs cells slots mc ms ls C hR hS hl ha hb) (fun z => kf z p e s m args below meth c H locs cells slots mc ms ls C hR hS hl ha hb)
theorem X_if_ne {x : Int32} {off : Int} (tg q : Nat) (hd : decode (mB M) pc = .ok (.ifCond .ne off, 3)) (ht : (pc : Int) + off = (tg : Int)) (hq : pc + 3 = q) (kt : ¬ x = 0 → X κ d M tg L st G a b Φ Ψ) (kf : x = 0 → X κ d M q L st G a b Φ Ψ) : X κ d M pc L (.int x :: st) G a b Φ Ψ := by
  subst hq
  intro p e s m args below meth c H locs cells slots mc ms ls C hR hS hl ha hb
  exact lv_if_ne C.ex C.cd hd ht (fun z => kt z p e s m args below meth c H locs cells slots mc ms ls C hR hS hl ha hb) (fun z => kf z p e s m args below meth c H locs cells slots mc ms ls C hR hS hl ha hb)
theorem X_icmp_ne {x y : Int32} {off : Int} (tg q : Nat) (hd : decode (mB M) pc = .ok (.if_icmp .ne off, 3)) (ht : (pc : Int) + off = (tg : Int)) (hq : pc + 3 = q) (kt : ¬ x = y → X κ d M tg L st G a b Φ Ψ) (kf : x = y → X κ d M q L st G a b Φ Ψ) : X κ d M pc L (.int y :: .int x :: st) G a b Φ Ψ := by
  subst hq
  intro p e s m args below meth c H locs cells slots mc ms ls C hR hS hl ha hb
  exact lv_icmp_ne C.ex C.cd hd ht (fun z => kt z p e s m args below meth c H locs cells slots mc ms ls C hR hS hl ha hb) (fun z => kf z p e s m args below meth c H locs cells slots mc ms ls C hR hS hl ha hb)
theorem X_if_lt {x : Int32} {off : Int} (tg q : Nat) (hd : decode (mB M) pc = .ok (.ifCond .lt off, 3)) (ht : (pc : Int) + off = (tg : Int)) (hq : pc + 3 = q) (kt : x < 0 → X κ d M tg L st G a b Φ Ψ) (kf : ¬ x < 0 → X κ d M q L st G a b Φ Ψ) : X κ d M pc L (.int x :: st) G a b Φ Ψ := by
  subst hq
  intro p e s m args below meth c H locs cells slots mc ms ls C hR hS hl ha hb
  exact lv_if_lt C.ex C.cd hd ht (fun z => kt z p e s m args below meth c H locs cells slots mc ms ls C hR hS hl ha hb) (fun z => kf z p e s m args below meth c H locs cells slots mc ms ls C hR hS hl ha hb)
theorem X_icmp_lt {x y : Int32} {off : Int} (tg q : Nat) (hd : decode (mB M) pc = .ok (.if_icmp .lt off, 3)) (ht : (pc : Int) + off = (tg : Int)) (hq : pc + 3 = q) (kt : x < y → X κ d M tg L st G a b Φ Ψ) (kf : ¬ x < y → X κ d M q L st G a b Φ Ψ) : X κ d M pc L (.int y :: .int x :: st) G a b Φ Ψ := by
  subst hq
  intro p e s m args below meth c H locs cells slots mc ms ls C hR hS hl ha hb
  exact lv_icmp_lt C.ex C.cd hd ht (fun z => kt z p e s m args below meth c H locs cells slots mc ms ls C hR hS hl ha hb) (fun z => kf z p e s m args below meth c H locs cells slots mc ms ls C hR hS hl ha hb)
theorem X_if_ge {x : Int32} {off : Int} (tg q : Nat) (hd : decode (mB M) pc = .ok (.ifCond .ge off, 3)) (ht : (pc : Int) + off = (tg : Int)) (hq : pc + 3 = q) (kt : 0 ≤ x → X κ d M tg L st G a b Φ Ψ) (kf : ¬ 0 ≤ x → X κ d M q L st G a b Φ Ψ) : X κ d M pc L (.int x :: st) G a b Φ Ψ := by
  subst hq
  intro p e s m args below meth c H locs cells slots mc ms ls C hR hS hl ha hb
  exact lv_if_ge C.ex C.cd hd ht (fun z => kt z p e s m args below meth c H locs cells slots mc ms ls C hR hS hl ha hb) (fun z => kf z p e s m args below meth c H locs cells slots mc ms ls C hR hS hl ha hb)
theorem X_icmp_ge {x y : Int32} {off : Int} (tg q : Nat) (hd : decode (mB M) pc = .ok (.if_icmp .ge off, 3)) (ht : (pc : Int) + off = (tg : Int)) (hq : pc + 3 = q) (kt : y ≤ x → X κ d M tg L st G a b Φ Ψ) (kf : ¬ y ≤ x → X κ d M q L st G a b Φ Ψ) : X κ d M pc L (.int y :: .int x :: st) G a b Φ Ψ := by
  subst hq
  intro p e s m args below meth c H locs cells slots mc ms ls C hR hS hl ha hb
  exact lv_icmp_ge C.ex C.cd hd ht (fun z => kt z p e s m args below meth c H locs cells slots mc ms ls C hR hS hl ha hb) (fun z => kf z p e s m args below meth c H locs cells slots mc ms ls C hR hS hl ha hb)
theorem X_if_gt {x : Int32} {off : Int} (tg q : Nat) (hd : decode (mB M) pc = .ok (.ifCond .gt off, 3)) (ht : (pc : Int) + off = (tg : Int)) (hq : pc + 3 = q) (kt : 0 < x → X κ d M tg L st G a b Φ Ψ) (kf : ¬ 0 < x → X κ d M q L st G a b Φ Ψ) : X κ d M pc L (.int x :: st) G a b Φ Ψ := by
  subst hq
  intro p e s m args below meth c H locs cells slots mc ms ls C hR hS hl ha hb
  exact lv_if_gt C.ex C.cd hd ht (fun z => kt z p e s m args below meth c H locs cells slots mc ms ls C hR hS hl ha hb) (fun z => kf z p e s m args below meth c H locs cells slots mc ms ls C hR hS hl ha hb)
theorem X_icmp_gt {x y : Int32} {off : Int} (tg q : Nat) (hd : decode (mB M) pc = .ok (.if_icmp .gt off, 3)) (ht : (pc : Int) + off = (tg : Int)) (hq : pc + 3 = q) (kt : y < x → X κ d M tg L st G a b Φ Ψ) (kf : ¬ y < x → X κ d M q L st G a b Φ Ψ) : X κ d M pc L (.int y :: .int x :: st) G a b Φ Ψ := by
  subst hq
  intro p e s m args below meth c H locs cells slots mc ms ls C hR hS hl ha hb
  exact lv_icmp_gt C.ex C.cd hd ht (fun z => kt z p e s m args below meth c H locs cells slots mc ms ls C hR hS hl ha hb) (fun z => kf z p e s m args below meth c H locs cells slots mc ms ls C hR hS hl ha hb)
theorem X_if_le {x : Int32} {off : Int} (tg q : Nat) (hd : decode (mB M) pc = .ok (.ifCond .le off, 3)) (ht : (pc : Int) + off = (tg : Int)) (hq : pc + 3 = q) (kt : x ≤ 0 → X κ d M tg L st G a b Φ Ψ) (kf : ¬ x ≤ 0 → X κ d M q L st G a b Φ Ψ) : X κ d M pc L (.int x :: st) G a b Φ Ψ := by
  subst hq
  intro p e s m args below meth c H locs cells slots mc ms ls C hR hS hl ha hb
  exact lv_if_le C.ex C.cd hd ht (fun z => kt z p e s m args below meth c H locs cells slots mc ms ls C hR hS hl ha hb) (fun z => kf z p e s m args below meth c H locs cells slots mc ms ls C hR hS hl ha hb)
theorem X_icmp_le {x y : Int32} {off : Int} (tg q : Nat) (hd : decode (mB M) pc = .ok (.if_icmp .le off, 3)) (ht : (pc : Int) + off = (tg : Int)) (hq : pc + 3 = q) (kt : x ≤ y → X κ d M tg L st G a b Φ Ψ) (kf : ¬ x ≤ y → X κ d M q L st G a b Φ Ψ) : X κ d M pc L (.int y :: .int x :: st) G a b Φ Ψ := by
  subst hq
  intro p e s m args below meth c H locs cells slots mc ms ls C hR hS hl ha hb
  exact lv_icmp_le C.ex C.cd hd ht (fun z => kt z p e s m args below meth c H locs cells slots mc ms ls C hR hS hl ha hb) (fun z => kf z p e s m args below meth c H locs cells slots mc ms ls C hR hS hl ha hb)
theorem X_acmp_eq {x y : Nat} {off : Int} (tg q : Nat) (hd : decode (mB M) pc = .ok (.if_acmp .eq off, 3)) (ht : (pc : Int) + off = (tg : Int)) (hq : pc + 3 = q) (kt : x = y → X κ d M tg L st G a b Φ Ψ) (kf : ¬ x = y → X κ d M q L st G a b Φ Ψ) : X κ d M pc L (.ref y :: .ref x :: st) G a b Φ Ψ := by
  subst hq
  intro p e s m args below meth c H locs cells slots mc ms ls C hR hS hl ha hb
  exact lv_acmp_eq (rx := some x) (ry := some y) C.ex C.cd hd ht (fun z => kt (Option.some.inj z) p e s m args below meth c H locs cells slots mc ms ls C hR hS hl ha hb) (fun z => kf (fun h => z (congrArg some h)) p e s m args below meth c H locs cells slots mc ms ls C hR hS hl ha hb)
theorem X_acmp_ne {x y : Nat} {off : Int} (tg q : Nat) (hd : decode (mB M) pc = .ok (.if_acmp .ne off, 3)) (ht : (pc : Int) + off = (tg : Int)) (hq : pc + 3 = q) (kt : ¬ x = y → X κ d M tg L st G a b Φ Ψ) (kf : x = y → X κ d M q L st G a b Φ Ψ) : X κ d M pc L (.ref y :: .ref x :: st) G a b Φ Ψ := by
  subst hq
  intro p e s m args below meth c H locs cells slots mc ms ls C hR hS hl ha hb
  exact lv_acmp_ne (rx := some x) (ry := some y) C.ex C.cd hd ht (fun z => kt (fun h => z (congrArg some h)) p e s m args below meth c H locs cells slots mc ms ls C hR hS hl ha hb) (fun z => kf (Option.some.inj z) p e s m args below meth c H locs cells slots mc ms ls C hR hS hl ha hb)
theorem X_goto {off : Int} (tg : Nat) (hd : decode (mB M) pc = .ok (.goto off, 3)) (ht : (pc : Int) + off = (tg : Int)) (k : X κ d M tg L st G a b Φ Ψ) : X κ d M pc L st G a b Φ Ψ := by
  intro p e s m args below meth c H locs cells slots mc ms ls C hR hS hl ha hb
  exact lv_goto C.ex C.cd hd ht (k p e s m args below meth c H locs cells slots mc ms ls C hR hS hl ha hb)
theorem X_ifnull {x : Nat} {off : Int} (q : Nat) (hd : decode (mB M) pc = .ok (.ifnull off, 3)) (hq : pc + 3 = q) (k : X κ d M q L st G a b Φ Ψ) : X κ d M pc L (.ref x :: st) G a b Φ Ψ := by
  subst hq
  intro p e s m args below meth c H locs cells slots mc ms ls C hR hS hl ha hb
  exact lv_ifnull C.ex C.cd hd (k p e s m args below meth c H locs cells slots mc ms ls C hR hS hl ha hb)
theorem X_ifnullN {off : Int} (tg : Nat) (hd : decode (mB M) pc = .ok (.ifnull off, 3)) (ht : (pc : Int) + off = (tg : Int)) (k : X κ d M tg L st G a b Φ Ψ) : X κ d M pc L (.null :: st) G a b Φ Ψ := by
  intro p e s m args below meth c H locs cells slots mc ms ls C hR hS hl ha hb
  exact lv_ifnullN C.ex C.cd hd ht (k p e s m args below meth c H locs cells slots mc ms ls C hR hS hl ha hb)
theorem X_ifnonnull {x : Nat} {off : Int} (tg : Nat) (hd : decode (mB M) pc = .ok (.ifnonnull off, 3)) (ht : (pc : Int) + off = (tg : Int)) (k : X κ d M tg L st G a b Φ Ψ) : X κ d M pc L (.ref x :: st) G a b Φ Ψ := by
  intro p e s m args below meth c H locs cells slots mc ms ls C hR hS hl ha hb
  exact lv_ifnonnull C.ex C.cd hd ht (k p e s m args below meth c H locs cells slots mc ms ls C hR hS hl ha hb)
theorem X_ifnonnullN {off : Int} (q : Nat) (hd : decode (mB M) pc = .ok (.ifnonnull off, 3)) (hq : pc + 3 = q) (k : X κ d M q L st G a b Φ Ψ) : X κ d M pc L (.null :: st) G a b Φ Ψ := by
  subst hq
  intro p e s m args below meth c H locs cells slots mc ms ls C hR hS hl ha hb
  exact lv_ifnonnullN C.ex C.cd hd (k p e s m args below meth c H locs cells slots mc ms ls C hR hS hl ha hb)
theorem X_tableIn {dflt lo hi : Int} {offs : Array Int} {len : Nat} {x : Int32} {off : Int} (tg : Nat) (hd : decode (mB M) pc = .ok (.tableswitch dflt lo hi offs, len)) (h1 : ¬ x.toInt < lo) (h2 : ¬ hi < x.toInt) (ho : offs[(x.toInt - lo).toNat]? = some off) (ht : (pc : Int) + off = (tg : Int)) (k : X κ d M tg L st G a b Φ Ψ) : X κ d M pc L (.int x :: st) G a b Φ Ψ := by
  intro p e s m args below meth c H locs cells slots mc ms ls C hR hS hl ha hb
  exact lv_tableIn C.ex C.cd hd h1 h2 ho ht (k p e s m args below meth c H locs cells slots mc ms ls C hR hS hl ha hb)
theorem X_tableOut {dflt lo hi : Int} {offs : Array Int} {len : Nat} {x : Int32} (tg : Nat) (hd : decode (mB M) pc = .ok (.tableswitch dflt lo hi offs, len)) (h : x.toInt < lo ∨ hi < x.toInt) (ht : (pc : Int) + dflt = (tg : Int)) (k : X κ d M tg L st G a b Φ Ψ) : X κ d M pc L (.int x :: st) G a b Φ Ψ := by
  intro p e s m args below meth c H locs cells slots mc ms ls C hR hS hl ha hb
  exact lv_tableOut C.ex C.cd hd h ht (k p e s m args below meth c H locs cells slots mc ms ls C hR hS hl ha hb)
theorem X_lookup {dflt : Int} {ps : Array (Int × Int)} {len : Nat} {x : Int32} {off : Int} (tg : Nat) (hd : decode (mB M) pc = .ok (.lookupswitch dflt ps, len)) (hp : (ps.toList.zip (ps.toList.drop 1)).all (fun (a, next) => a.1 < next.1) = true) (ho : Op.lookupswitch.offset ps.toList dflt x.toInt = off) (ht : (pc : Int) + off = (tg : Int)) (k : X κ d M tg L st G a b Φ Ψ) : X κ d M pc L (.int x :: st) G a b Φ Ψ := by
  intro p e s m args below meth c H locs cells slots mc ms ls C hR hS hl ha hb
  exact lv_lookup C.ex C.cd hd hp ho ht (k p e s m args below meth c H locs cells slots mc ms ls C hR hS hl ha hb)
theorem X_ldc {index : Nat} {v : Int32} (q : Nat) (hd : decode (mB M) pc = .ok (.ldc index, 2)) (hq : pc + 2 = q) (hw : Jvm.Cond.constant (mO M) index v ∈ lw_all) (k : X κ d M q L (.int v :: st) G a b Φ Ψ) : X κ d M pc L st G a b Φ Ψ := by
  subst hq
  intro p e s m args below meth c H locs cells slots mc ms ls C hR hS hl ha hb
  exact lv_ldc C.ex C.cd C.ow (C.ws _ hw) hd (k p e s m args below meth c H locs cells slots mc ms ls C hR hS hl ha hb)
theorem X_ldcw {index : Nat} {v : Int32} (q : Nat) (hd : decode (mB M) pc = .ok (.ldc_w index, 3)) (hq : pc + 3 = q) (hw : Jvm.Cond.constant (mO M) index v ∈ lw_all) (k : X κ d M q L (.int v :: st) G a b Φ Ψ) : X κ d M pc L st G a b Φ Ψ := by
  subst hq
  intro p e s m args below meth c H locs cells slots mc ms ls C hR hS hl ha hb
  exact lv_ldcw C.ex C.cd C.ow (C.ws _ hw) hd (k p e s m args below meth c H locs cells slots mc ms ls C hR hS hl ha hb)
theorem X_ldc2 {index : Nat} {v : Int64} (q : Nat) (hd : decode (mB M) pc = .ok (.ldc2_w index, 3)) (hq : pc + 3 = q) (hw : Jvm.Cond.constantLong (mO M) index v ∈ lw_all) (k : X κ d M q L (.long v :: st) G a b Φ Ψ) : X κ d M pc L st G a b Φ Ψ := by
  subst hq
  intro p e s m args below meth c H locs cells slots mc ms ls C hR hS hl ha hb
  exact lv_ldc2 C.ex C.cd C.ow (C.ws _ hw) hd (k p e s m args below meth c H locs cells slots mc ms ls C hR hS hl ha hb)
theorem X_ldcS {index : Nat} (q j : Nat) (hd : decode (mB M) pc = .ok (.ldc index, 2)) (hq : pc + 2 = q) (hw : (mO M, index, j) ∈ TXC) (k : X κ d M q L (.ref (kX κ j) :: st) G a b Φ Ψ) : X κ d M pc L st G a b Φ Ψ := by
  subst hq
  intro p e s m args below meth c H locs cells slots mc ms ls C hR hS hl ha hb
  obtain ⟨tx, hk⟩ := C.1.2.2.2.2.2.2.2.2.2.1 _ hw
  exact va_ldcS C.ex C.cd C.ow (vk_R.warm C.wm hk) hd (k p e s m args below meth c H locs cells slots mc ms ls C hR hS hl ha hb)
theorem Cx.Z {κ : Kx} {M : XM} {p : Program} {s : State} {m : MethodId} {args : Array Value} {meth : Method} {c : Code} (C : Cx κ M p s m args meth c) {A B D : String} {v : Value} (h : va_Z A B D v (kF κ) (kS κ) (kS κ).heap) : va_Z A B D v (kF κ) s s.heap :=
  (va_Z.moved C.wm.alike h).kept (fun q h1 h2 => C.od q h1)
theorem X_getsR {index : Nat} {A B D : String} (q i : Nat) (hd : decode (mB M) pc = .ok (.getstatic index, 3)) (hq : pc + 3 = q) (hi : RST[i]? = some (A, B, D)) (hw : Jvm.Cond.fieldLink (mO M) index A B D ∈ lw_all) (k : X κ d M q L (.ref (kC κ i) :: st) G a b Φ Ψ) : X κ d M pc L st G a b Φ Ψ := by
  subst hq
  intro p e s m args below meth c H locs cells slots mc ms ls C hR hS hl ha hb
  exact va_gets C.ex C.cd (C.Z (C.1.2.2.2.1 i _ hi)) hS C.ow (C.ws _ hw) (fun _ h => h) hd (k p e s m args below meth c H locs cells slots mc ms ls C hR hS hl ha hb)
theorem X_getsI {index : Nat} {A B D : String} {z : Int32} (q : Nat) (hd : decode (mB M) pc = .ok (.getstatic index, 3)) (hq : pc + 3 = q) (hi : (A, B, D, z) ∈ IST) (hw : Jvm.Cond.fieldLink (mO M) index A B D ∈ lw_all) (k : X κ d M q L (.int z :: st) G a b Φ Ψ) : X κ d M pc L st G a b Φ Ψ := by
  subst hq
  intro p e s m args below meth c H locs cells slots mc ms ls C hR hS hl ha hb
  exact va_gets C.ex C.cd (C.Z (C.1.2.2.2.2.1 _ hi)) hS C.ow (C.ws _ hw) (fun _ h => h) hd (k p e s m args below meth c H locs cells slots mc ms ls C hR hS hl ha hb)
theorem X_iret {v : Int32} (hd : decode (mB M) pc = .ok (.ireturn, 1)) (hr : mR M = some .int) (k : Φ (some (.int v)) G) : X κ d M pc L [.int v] G a b Φ Ψ := by
  intro p e s m args below meth c H locs cells slots mc ms ls C hR hS hl ha hb
  refine W.widen (k := mc) (n := ms) (by omega) (by omega) (vx_ret ?_)
  exact W.iret C.ex C.cd (C.rt.trans hr) (fun t ht hW => ⟨_, G, rfl, k, ht ▸ hR, hS.F ht⟩) hS.2.2 hd C.lk
theorem X_zret {v : Int32} {ty : FieldType} (hd : decode (mB M) pc = .ok (.ireturn, 1)) (hr : mR M = some ty) (hn : narrow ty (.int v) = .int v) (k : Φ (some (.int v)) G) : X κ d M pc L [.int v] G a b Φ Ψ := by
  intro p e s m args below meth c H locs cells slots mc ms ls C hR hS hl ha hb
  refine W.widen (k := mc) (n := ms) (by omega) (by omega) (vx_ret ?_)
  exact W.zret C.ex C.cd (C.rt.trans hr) hn (fun t ht hW => ⟨_, G, rfl, k, ht ▸ hR, hS.F ht⟩) hS.2.2 hd C.lk
theorem X_lret {v : Int64} (hd : decode (mB M) pc = .ok (.lreturn, 1)) (hr : mR M = some .long) (k : Φ (some (.long v)) G) : X κ d M pc L [.long v] G a b Φ Ψ := by
  intro p e s m args below meth c H locs cells slots mc ms ls C hR hS hl ha hb
  refine W.widen (k := mc) (n := ms) (by omega) (by omega) (vx_ret ?_)
  exact W.lret C.ex C.cd (C.rt.trans hr) (fun t ht hW => ⟨_, G, rfl, k, ht ▸ hR, hS.F ht⟩) hS.2.2 hd C.lk
theorem X_dret {v : UInt64} (hd : decode (mB M) pc = .ok (.dreturn, 1)) (hr : mR M = some .double) (k : Φ (some (.double v)) G) : X κ d M pc L [.double v] G a b Φ Ψ := by
  intro p e s m args below meth c H locs cells slots mc ms ls C hR hS hl ha hb
  refine W.widen (k := mc) (n := ms) (by omega) (by omega) (vx_ret ?_)
  exact W.dret C.ex C.cd (C.rt.trans hr) (fun t ht hW => ⟨_, G, rfl, k, ht ▸ hR, hS.F ht⟩) hS.2.2 hd C.lk
theorem X_vret (hd : decode (mB M) pc = .ok (.return_, 1)) (hr : mR M = none) (k : Φ none G) : X κ d M pc L [] G a b Φ Ψ := by
  intro p e s m args below meth c H locs cells slots mc ms ls C hR hS hl ha hb
  refine W.widen (k := mc) (n := ms) (by omega) (by omega) (vx_ret ?_)
  exact W.vret C.ex C.cd (C.rt.trans hr) (fun t ht hW => ⟨_, G, rfl, k, ht ▸ hR, hS.F ht⟩) hS.2.2 hd C.lk
theorem X_aret {v : Nat} {ty : FieldType} (hd : decode (mB M) pc = .ok (.areturn, 1)) (hr : mR M = some ty) (hrt : (∃ n, ty = .object n) ∨ ∃ t, ty = .array t) (k : Φ (some (.ref v)) G) : X κ d M pc L [.ref v] G a b Φ Ψ := by
  intro p e s m args below meth c H locs cells slots mc ms ls C hR hS hl ha hb
  refine W.widen (k := mc) (n := ms) (by omega) (by omega) (vx_ret ?_)
  exact W.aret C.ex C.cd (C.rt.trans hr) hrt (Or.inr ⟨_, rfl⟩) (fun t ht hW => ⟨_, G, rfl, k, ht ▸ hR, hS.F ht⟩) hS.2.2 hd C.lk
theorem X_aretN {ty : FieldType} (hd : decode (mB M) pc = .ok (.areturn, 1)) (hr : mR M = some ty) (hrt : (∃ n, ty = .object n) ∨ ∃ t, ty = .array t) (k : Φ (some .null) G) : X κ d M pc L [.null] G a b Φ Ψ := by
  intro p e s m args below meth c H locs cells slots mc ms ls C hR hS hl ha hb
  refine W.widen (k := mc) (n := ms) (by omega) (by omega) (vx_ret ?_)
  exact W.aret C.ex C.cd (C.rt.trans hr) hrt (Or.inl rfl) (fun t ht hW => ⟨_, G, rfl, k, ht ▸ hR, hS.F ht⟩) hS.2.2 hd C.lk
end XR

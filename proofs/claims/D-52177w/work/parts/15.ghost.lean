/-! ===== CORE 7: ghost owners, what a piece of code may change ===== -/
section XG
variable {κ : Kx} {d : Nat} {M : XM} {pc : Nat} {L : List (Option Value)} {st : List Value} {G : Gt} {a b : Nat} {Φ : Option Value → Gt → Prop} {Ψ : String → Nat → Gt → Prop}
theorem X_getsQ {index : Nat} (q : Nat) (hd : decode (mB M) pc = .ok (.getstatic index, 3)) (hq : pc + 3 = q) (hw : Jvm.Cond.fieldLink (mO M) index "jdk/internal/util/Preconditions" "SIOOBE_FORMATTER" "Ljava/util/function/BiFunction;" ∈ lw_all) (kn : X κ d M q L (.null :: st) G a b Φ Ψ) (kr : ∀ t, X κ d M q L (.ref t :: st) G a b Φ Ψ) : X κ d M pc L st G a b Φ Ψ := by
  subst hq
  intro p e s m args below meth c H locs cells slots mc ms ls C hR hS hl ha hb
  rcases C.1.2.2.2.2.2.2.2.2.2.2.2.2.2.2.2.2.2.2.2.2.2.2.1 with h | ⟨t, h⟩
  · exact va_gets C.ex C.cd (C.Z h) hS C.ow (C.ws _ hw) (fun _ h => h) hd (kn p e s m args below meth c H locs cells slots mc ms ls C hR hS hl ha hb)
  · exact va_gets C.ex C.cd (C.Z h) hS C.ow (C.ws _ hw) (fun _ h => h) hd (kr t p e s m args below meth c H locs cells slots mc ms ls C hR hS hl ha hb)
/-- the owner of a cell: a ghost, the reference field 0 of class 0 -/
def ow (G : Gt) (a : Nat) : Option Nat := gR G 0 0 a
def so (G : Gt) (a : Nat) (w : Option Nat) : Gt := sR G 0 0 a w
/-- a second ghost, a number -/
def tg (G : Gt) (a : Nat) : Int32 := gI G 0 0 a
def sg (G : Gt) (a : Nat) (v : Int32) : Gt := sI G 0 0 a v
theorem Rp.gh {H : Heap} {o : Nat} {w : Option Nat} (h : Rp κ G H) (hB : kB κ ≤ o) : Rp κ (so G o w) H := by
  refine ⟨fun x hx => ?_, h.2.1, h.2.2.1, fun x hx => ?_⟩
  · have hc := h.1 x hx
    have e1 : ∀ t, CL[t]? ≠ none → t ≠ 0 → gV (so G o w) t x = gV G t x := fun t _ h0 => by
      funext k
      simp only [gV, so, gI_sR, gR_sR, h0, false_and, and_false, if_false]
    have e2 : ∀ t, gC (so G o w) t x = gC G t x := fun t => rfl
    refine ⟨fun ht => ?_, fun ht => ?_⟩
    · obtain ⟨r, h1, h2⟩ := hc.1 ht
      refine ⟨r, h1, ?_⟩
      have h9 : gT G x ≠ 0 := hx
      have := e1 (gT G x) (by rw [h1]; exact fun h => by cases h) h9
      show t_OB x _ r.2.2 _ H (gV (so G o w) (gT G x) x)
      rw [this]
      exact h2
    · exact hc.2 ht
  · obtain ⟨g1, g2, g3, g4⟩ := h.2.2.2 x hx
    refine ⟨g1, g2, fun c k => ?_, g4⟩
    rw [so, gR_sR, if_neg (by omega)]
    exact g3 c k
theorem Rp.gg {H : Heap} {o : Nat} {w : Int32} (h : Rp κ G H) (hB : kB κ ≤ o) : Rp κ (sg G o w) H := by
  refine ⟨fun x hx => ?_, h.2.1, h.2.2.1, fun x hx => ?_⟩
  · have hc := h.1 x hx
    have e1 : ∀ t, CL[t]? ≠ none → t ≠ 0 → gV (sg G o w) t x = gV G t x := fun t _ h0 => by
      funext k
      simp only [gV, sg, gI_sI, gR_sI, h0, false_and, and_false, if_false]
    refine ⟨fun ht => ?_, fun ht => ?_⟩
    · obtain ⟨r, h1, h2⟩ := hc.1 ht
      refine ⟨r, h1, ?_⟩
      have h9 : gT G x ≠ 0 := hx
      have := e1 (gT G x) (by rw [h1]; exact fun h => by cases h) h9
      show t_OB x _ r.2.2 _ H (gV (sg G o w) (gT G x) x)
      rw [this]
      exact h2
    · exact hc.2 ht
  · obtain ⟨g1, g2, g3, g4⟩ := h.2.2.2 x hx
    refine ⟨g1, fun c k => ?_, g3, g4⟩
    rw [sg, gI_sI, if_neg (by omega)]
    exact g2 c k
theorem X.gh {o : Nat} {w : Option Nat} (hB : kB κ ≤ o) (k : X κ d M pc L st (so G o w) a b Φ Ψ) : X κ d M pc L st G a b Φ Ψ := by
  intro p e s m args below meth c H locs cells slots mc ms ls C hR hS hl ha hb
  exact k p e s m args below meth c H locs cells slots mc ms ls C (hR.gh hB) hS hl ha hb
theorem X.gg {o : Nat} {w : Int32} (hB : kB κ ≤ o) (k : X κ d M pc L st (sg G o w) a b Φ Ψ) : X κ d M pc L st G a b Φ Ψ := by
  intro p e s m args below meth c H locs cells slots mc ms ls C hR hS hl ha hb
  exact k p e s m args below meth c H locs cells slots mc ms ls C (hR.gg hB) hS hl ha hb
/-- what the start gave stands still -/
def Bs (κ : Kx) (G : Gt) : Prop := Kok κ ∧ ∀ a, a < kB κ → agr G (kG κ) a
theorem X.bs (k : Bs κ G → X κ d M pc L st G a b Φ Ψ) : X κ d M pc L st G a b Φ Ψ := by
  intro p e s m args below meth c H locs cells slots mc ms ls C hR hS hl ha hb
  exact k ⟨C.1, hR.2.2.2⟩ p e s m args below meth c H locs cells slots mc ms ls C hR hS hl ha hb
end XG
/-! the hash of a text's bytes -/
def hsh (f : Nat → Int32) : Nat → Int32
  | 0 => 0
  | n + 1 => 31 * hsh f n + (f n &&& 255)
theorem hsh_cg {f g : Nat → Int32} : ∀ {n : Nat}, (∀ i, i < n → f i = g i) → hsh f n = hsh g n
  | 0, _ => rfl
  | n + 1, h => by rw [hsh, hsh, hsh_cg (fun i hi => h i (Nat.lt_succ_of_lt hi)), h n (Nat.lt_succ_self n)]
/-- as agr, but that a text may have noted its hash: the hash is what the ghost number says -/
def agm (G' G : Gt) (a : Nat) : Prop := gT G' a = gT G a ∧ (∀ c k, (c = 27 ∧ 2 ≤ k) ∨ gI G' c k a = gI G c k a) ∧ (∀ c k, gR G' c k a = gR G c k a) ∧ gL G' a = gL G a ∧ (∀ i, eI G' a i = eI G a i) ∧ (∀ i, eJ G' a i = eJ G a i) ∧ (∀ i, eR G' a i = eR G a i) ∧
  (gI G' 27 2 a = gI G 27 2 a ∨ gI G' 27 2 a = tg G a) ∧ (gI G' 27 3 a = gI G 27 3 a ∨ tg G a = 0)
theorem agm.rf (G : Gt) (a : Nat) : agm G G a := ⟨rfl, fun _ _ => Or.inr rfl, fun _ _ => rfl, rfl, fun _ => rfl, fun _ => rfl, fun _ => rfl, Or.inl rfl, Or.inl rfl⟩
theorem agm.of {G G' : Gt} {a : Nat} (h : agr G' G a) : agm G' G a := ⟨h.1, fun c k => Or.inr (h.2.1 c k), h.2.2.1, h.2.2.2.1, h.2.2.2.2.1, h.2.2.2.2.2.1, h.2.2.2.2.2.2, Or.inl (h.2.1 27 2), Or.inl (h.2.1 27 3)⟩
theorem agm.i {G G' : Gt} {a c k : Nat} (h : agm G' G a) (hc : c ≠ 27) : gI G' c k a = gI G c k a := (h.2.1 c k).resolve_left (fun e => hc e.1)
theorem agm.i2 {G G' : Gt} {a c k : Nat} (h : agm G' G a) (hc : k < 2) : gI G' c k a = gI G c k a := (h.2.1 c k).resolve_left (fun e => by omega)
theorem agm.t {G G' : Gt} {a : Nat} (h : agm G' G a) : gT G' a = gT G a := h.1
theorem agm.r {G G' : Gt} {a : Nat} (h : agm G' G a) (c k : Nat) : gR G' c k a = gR G c k a := h.2.2.1 c k
theorem agm.o {G G' : Gt} {a : Nat} (h : agm G' G a) : ow G' a = ow G a := h.2.2.1 0 0
theorem agm.l {G G' : Gt} {a : Nat} (h : agm G' G a) : gL G' a = gL G a := h.2.2.2.1
theorem agm.ei {G G' : Gt} {a : Nat} (h : agm G' G a) (i : Nat) : eI G' a i = eI G a i := h.2.2.2.2.1 i
theorem agm.ej {G G' : Gt} {a : Nat} (h : agm G' G a) (i : Nat) : eJ G' a i = eJ G a i := h.2.2.2.2.2.1 i
theorem agm.er {G G' : Gt} {a : Nat} (h : agm G' G a) (i : Nat) : eR G' a i = eR G a i := h.2.2.2.2.2.2.1 i
/-- owners are known cells -/
def Wf (G : Gt) : Prop := ∀ a l, gT G a ≠ 0 → ow G a = some l → gT G l ≠ 0
/-- the cells whose owner is none of S stand still (texts' noted hashes apart); kinds and lengths stand still anyway -/
def Md (S : List Nat) (G G' : Gt) : Prop := (∀ a, gT G a ≠ 0 → gT G' a = gT G a ∧ gL G' a = gL G a ∧ ((∀ l ∈ S, ow G a ≠ some l) → agm G' G a)) ∧ (Wf G → Wf G')
def Wr (S : List Nat) (G : Gt) (a : Nat) : Prop := gT G a = 0 ∨ ∃ l ∈ S, ow G a = some l
theorem Md.rf (S : List Nat) (G : Gt) : Md S G G := ⟨fun a _ => ⟨rfl, rfl, fun _ => agm.rf G a⟩, fun h => h⟩
theorem Md.w {S : List Nat} {G G' : Gt} (h : Md S G G') (hw : Wf G) : Wf G' := h.2 hw
theorem Md.k {S : List Nat} {G G' : Gt} {a : Nat} (h : Md S G G') (ha : gT G a ≠ 0) : gT G' a = gT G a := (h.1 a ha).1
theorem Md.kt {S : List Nat} {G G' : Gt} {a t : Nat} (h : Md S G G') (ht : gT G a = t) (h0 : t ≠ 0) : gT G' a = t := (h.k (by rw [ht]; exact h0)).trans ht
theorem Md.l {S : List Nat} {G G' : Gt} {a : Nat} (h : Md S G G') (ha : gT G a ≠ 0) : gL G' a = gL G a := (h.1 a ha).2.1
theorem Md.a {S : List Nat} {G G' : Gt} {a : Nat} (h : Md S G G') (ha : gT G a ≠ 0) (hs : ∀ l ∈ S, ow G a ≠ some l) : agm G' G a := (h.1 a ha).2.2 hs
theorem Md.old {S : List Nat} {G0 G : Gt} {a : Nat} (h : Md S G0 G) (ha : gT G a = 0) : gT G0 a = 0 := by
  by_cases e : gT G0 a = 0
  · exact e
  · exact absurd (h.k e ▸ ha) e
theorem Md.up {S : List Nat} {G0 G G' : Gt} {x : Nat} (h : Md S G0 G) (hw : Wr S G0 x) (hf : Wf G → Wf G') (hk : gT G' x = gT G x) (hl : gL G' x = gL G x) (hg : ∀ a, a ≠ x → agr G' G a) : Md S G0 G' := ⟨fun a h1 => by
  by_cases hax : a = x
  · subst hax
    refine ⟨hk.trans (h.k h1), hl.trans (h.l h1), fun h2 => ?_⟩
    exfalso
    rcases hw with hw | ⟨l, hl, hw⟩
    · exact h1 hw
    · exact h2 l hl hw
  · obtain ⟨g1, g2, g3, g4, g5, g6, g7⟩ := hg a hax
    refine ⟨g1.trans (h.k h1), g4.trans (h.l h1), fun h2 => ?_⟩
    obtain ⟨k1, k2, k3, k4, k5, k6, k7, k8⟩ := h.a h1 h2
    refine ⟨g1.trans k1, fun c k => ?_, fun c k => (g3 c k).trans (k3 c k), g4.trans k4, fun i => (g5 i).trans (k5 i), fun i => (g6 i).trans (k6 i), fun i => (g7 i).trans (k7 i), ?_⟩
    · rw [g2]; exact k2 c k
    · rw [g2, g2]; exact k8, fun w => hf (h.w w)⟩
theorem Md.si {S : List Nat} {G0 G : Gt} {c k x : Nat} {v : Int32} (h : Md S G0 G) (hw : Wr S G0 x) : Md S G0 (sI G c k x v) := h.up hw (fun w => w) rfl rfl fun q hq =>
  ⟨rfl, fun c' k' => by rw [gI_sI, if_neg (fun e => hq e.1)], fun _ _ => rfl, rfl, fun _ => rfl, fun _ => rfl, fun _ => rfl⟩
theorem Md.sr {S : List Nat} {G0 G : Gt} {c k x : Nat} {v : Option Nat} (h : Md S G0 G) (hw : Wr S G0 x) (hc : c ≠ 0 := by decide) : Md S G0 (sR G c k x v) := h.up hw (fun w a l h1 h2 => w a l h1 (by rw [ow, gR_sR, if_neg (fun e => hc e.2.1.symm)] at h2; exact h2)) rfl rfl fun q hq =>
  ⟨rfl, fun _ _ => rfl, fun c' k' => by rw [gR_sR, if_neg (fun e => hq e.1)], rfl, fun _ => rfl, fun _ => rfl, fun _ => rfl⟩
theorem Md.gh {S : List Nat} {G0 G : Gt} {x l : Nat} (h : Md S G0 G) (hw : Wr S G0 x) (hl : gT G l ≠ 0) : Md S G0 (so G x (some l)) := h.up hw (fun w a l' h1 h2 => by
    rw [ow, so, gR_sR] at h2
    split at h2
    · cases h2; exact hl
    · exact w a l' h1 h2) rfl rfl fun q hq =>
  ⟨rfl, fun _ _ => rfl, fun c' k' => by rw [so, gR_sR, if_neg (fun e => hq e.1)], rfl, fun _ => rfl, fun _ => rfl, fun _ => rfl⟩
theorem Md.gg {S : List Nat} {G0 G : Gt} {x : Nat} {v : Int32} (h : Md S G0 G) (hw : Wr S G0 x) : Md S G0 (sg G x v) := h.si hw
theorem Md.wi {S : List Nat} {G0 G : Gt} {x : Nat} {f : Nat → Int32} (h : Md S G0 G) (hw : Wr S G0 x) : Md S G0 (wI G x f) := h.up hw (fun w => w) rfl rfl fun q hq =>
  ⟨rfl, fun _ _ => rfl, fun _ _ => rfl, rfl, fun i => by rw [eI_wI, if_neg hq], fun _ => rfl, fun _ => rfl⟩
theorem Md.wj {S : List Nat} {G0 G : Gt} {x : Nat} {f : Nat → Int64} (h : Md S G0 G) (hw : Wr S G0 x) : Md S G0 (wJ G x f) := h.up hw (fun w => w) rfl rfl fun q hq =>
  ⟨rfl, fun _ _ => rfl, fun _ _ => rfl, rfl, fun _ => rfl, fun i => by rw [eJ_wJ, if_neg hq], fun _ => rfl⟩
theorem Md.wr {S : List Nat} {G0 G : Gt} {x : Nat} {f : Nat → Option Nat} (h : Md S G0 G) (hw : Wr S G0 x) : Md S G0 (wR G x f) := h.up hw (fun w => w) rfl rfl fun q hq =>
  ⟨rfl, fun _ _ => rfl, fun _ _ => rfl, rfl, fun _ => rfl, fun _ => rfl, fun i => by rw [eR_wR, if_neg hq]⟩
theorem Md.ui {S : List Nat} {G0 G : Gt} {x i : Nat} {v : Int32} (h : Md S G0 G) (hw : Wr S G0 x) : Md S G0 (uI G x i v) := h.wi hw
theorem Md.uj {S : List Nat} {G0 G : Gt} {x i : Nat} {v : Int64} (h : Md S G0 G) (hw : Wr S G0 x) : Md S G0 (uJ G x i v) := h.wj hw
theorem Md.ur {S : List Nat} {G0 G : Gt} {x i : Nat} {v : Option Nat} (h : Md S G0 G) (hw : Wr S G0 x) : Md S G0 (uR G x i v) := h.wr hw
theorem Wf.nw {G : Gt} {x t n : Nat} (w : Wf G) (hx : gT G x = 0) : Wf (nw G x t n) := fun a l h1 h2 => by
  rw [ow, gR_nw] at h2
  split at h2
  · cases h2
  · rename_i hax
    rw [gT_nw, if_neg hax] at h1
    have := w a l h1 h2
    rw [gT_nw, if_neg (fun (e : l = x) => this (by rw [e]; exact hx))]
    exact this
theorem Md.nn {S : List Nat} {G0 G : Gt} {x t n : Nat} (h : Md S G0 G) (hx : gT G x = 0) : Md S G0 (nw G x t n) := ⟨fun a h1 => by
  have hax : a ≠ x := fun e => h1 (e ▸ h.old hx)
  obtain ⟨g1, g2, g3, g4, g5, g6, g7⟩ := nw_agr (G := G) (t := t) (n := n) a hax
  refine ⟨g1.trans (h.k h1), g4.trans (h.l h1), fun h2 => ?_⟩
  obtain ⟨k1, k2, k3, k4, k5, k6, k7, k8⟩ := h.a h1 h2
  refine ⟨g1.trans k1, fun c k => ?_, fun c k => (g3 c k).trans (k3 c k), g4.trans k4, fun i => (g5 i).trans (k5 i), fun i => (g6 i).trans (k6 i), fun i => (g7 i).trans (k7 i), ?_⟩
  · rw [g2]; exact k2 c k
  · rw [g2, g2]; exact k8, fun w => (h.w w).nw hx⟩
theorem Md.mono {S S' : List Nat} {G G' : Gt} (h : Md S G G') (hs : ∀ l ∈ S, l ∈ S') : Md S' G G' := ⟨fun a h1 => ⟨h.k h1, h.l h1, fun h2 => h.a h1 (fun l hl => h2 l (hs l hl))⟩, h.2⟩
/-- what is new since G0 may go from the list -/
theorem Md.drop {S S' : List Nat} {G G' : Gt} (h : Md S' G G') (w : Wf G) (hs : ∀ l ∈ S', l ∈ S ∨ gT G l = 0) : Md S G G' := ⟨fun a h1 => ⟨h.k h1, h.l h1, fun h2 => h.a h1 (fun l hl e => by
  rcases hs l hl with g | g
  · exact h2 l g e
  · exact w a l h1 e g)⟩, h.2⟩
theorem Md.s0 {S : List Nat} {G G' : Gt} (h : Md [] G G') : Md S G G' := h.mono (fun _ q => absurd q List.not_mem_nil)
theorem agm.g {G G' : Gt} {a : Nat} (h : agm G' G a) : tg G' a = tg G a := h.i2 (by omega)
theorem agm.trans {G0 G G' : Gt} {a : Nat} (h : agm G' G a) (k : agm G G0 a) : agm G' G0 a := by
  have hg : tg G a = tg G0 a := k.g
  obtain ⟨g1, g2, g3, g4, g5, g6, g7, g8, g9⟩ := h
  obtain ⟨k1, k2, k3, k4, k5, k6, k7, k8, k9⟩ := k
  refine ⟨g1.trans k1, fun c i => ?_, fun c i => (g3 c i).trans (k3 c i), g4.trans k4, fun i => (g5 i).trans (k5 i), fun i => (g6 i).trans (k6 i), fun i => (g7 i).trans (k7 i), ?_, ?_⟩
  · rcases g2 c i with g | g
    · exact Or.inl g
    · rcases k2 c i with k | k
      · exact Or.inl k
      · exact Or.inr (g.trans k)
  · rcases g8 with g | g
    · rw [g]; exact k8
    · exact Or.inr (g.trans hg)
  · rcases g9 with g | g
    · rw [g]; exact k9
    · exact Or.inr (hg ▸ g)
theorem Md.trans {S : List Nat} {G0 G G' : Gt} (h : Md S G0 G) (k : Md S G G') : Md S G0 G' := ⟨fun a h1 => by
  have e := h.k h1
  have h3 : gT G a ≠ 0 := by rw [e]; exact h1
  refine ⟨(k.k h3).trans e, (k.l h3).trans (h.l h1), fun h2 => ?_⟩
  have e1 := h.a h1 h2
  exact (k.a h3 (fun l hl => by rw [e1.o]; exact h2 l hl)).trans e1, fun w => k.w (h.w w)⟩
/-- as trans, when the second step may change what is new since the first heap -/
theorem Md.tr {S S' : List Nat} {G0 G G' : Gt} (h : Md S G0 G) (k : Md S' G G') (w : Wf G0) (hs : ∀ l ∈ S', l ∈ S ∨ gT G0 l = 0) : Md S G0 G' := by
  have h1 : Md (S ++ S') G0 G := h.mono (fun l hl => List.mem_append_left _ hl)
  have h2 : Md (S ++ S') G G' := k.mono (fun l hl => List.mem_append_right _ hl)
  exact (h1.trans h2).drop w (fun l hl => by
    rcases List.mem_append.mp hl with g | g
    · exact Or.inl g
    · exact hs l g)
/-- a text notes its hash -/
theorem Md.hs {S : List Nat} {G0 G : Gt} {x : Nat} {v : Int32} (h : Md S G0 G) (hv : v = tg G x) : Md S G0 (sI G 27 2 x v) := h.trans ⟨fun a _ => ⟨rfl, rfl, fun _ => by
  by_cases e : a = x
  · subst e
    refine ⟨rfl, fun c k => ?_, fun _ _ => rfl, rfl, fun _ => rfl, fun _ => rfl, fun _ => rfl, Or.inr ?_, Or.inl ?_⟩
    · by_cases hk : c = 27 ∧ k = 2
      · exact Or.inl ⟨hk.1, by omega⟩
      · right; rw [gI_sI, if_neg (fun e => hk ⟨e.2.1, e.2.2⟩)]
    · rw [gI_sI, if_pos ⟨rfl, rfl, rfl⟩]; exact hv
    · rw [gI_sI, if_neg (by omega)]
  · exact agm.of ⟨rfl, fun c' k' => by rw [gI_sI, if_neg (fun e' => e e'.1)], fun _ _ => rfl, rfl, fun _ => rfl, fun _ => rfl, fun _ => rfl⟩⟩, fun w => w⟩
theorem Md.hz {S : List Nat} {G0 G : Gt} {x : Nat} {v : Int32} (h : Md S G0 G) (hv : tg G x = 0) : Md S G0 (sI G 27 3 x v) := h.trans ⟨fun a _ => ⟨rfl, rfl, fun _ => by
  by_cases e : a = x
  · subst e
    refine ⟨rfl, fun c k => ?_, fun _ _ => rfl, rfl, fun _ => rfl, fun _ => rfl, fun _ => rfl, Or.inl ?_, Or.inr hv⟩
    · by_cases hk : c = 27 ∧ k = 3
      · exact Or.inl ⟨hk.1, by omega⟩
      · right; rw [gI_sI, if_neg (fun e => hk ⟨e.2.1, e.2.2⟩)]
    · rw [gI_sI, if_neg (by omega)]
  · exact agm.of ⟨rfl, fun c' k' => by rw [gI_sI, if_neg (fun e' => e e'.1)], fun _ _ => rfl, rfl, fun _ => rfl, fun _ => rfl, fun _ => rfl⟩⟩, fun w => w⟩
theorem Wr.w {S : List Nat} {G : Gt} {a l : Nat} (hl : l ∈ S) (h : ow G a = some l) : Wr S G a := Or.inr ⟨l, hl, h⟩
theorem Wr.n {S : List Nat} {G : Gt} {a : Nat} (h : gT G a = 0) : Wr S G a := Or.inl h
theorem Bs.o {κ : Kx} {G : Gt} (h : Bs κ G) {a : Nat} (ha : a < kB κ) : ow G a = none := ((h.2 a ha).2.2.1 0 0).trans (h.1.2.2.2.2.2.2.2.2.2.2.2.2.2.2.2.2.2.2.2.2.2.2.2 a)

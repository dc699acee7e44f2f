/-! ===== CORE 9: throwing ===== -/
set_option maxRecDepth 100000
def onT (w : Cond) : Bool := match w with
  | .declares _ => true
  | .castable _ _ => true
  | _ => false
def thOK (own : String) (ic : Nat) (E : String) (names : List String) : Bool := (vx_at0 own ic E names).all fun w => decide (w ∈ lw_tbl) && (goodWord w || onT w) && vx_ot w
section XT
variable {κ : Kx} {d : Nat} {M : XM} {pc : Nat} {L : List (Option Value)} {st : List Value} {G : Gt} {a b : Nat} {Φ : Option Value → Gt → Prop} {Ψ : String → Nat → Gt → Prop}
theorem Cx.tbl {p : Program} {s : State} {m : MethodId} {args : Array Value} {meth : Method} {c : Code} (C : Cx κ M p s m args meth c) {w : Cond} (h : w ∈ lw_tbl) (ho : goodWord w = true ∨ onT w = true) : w.before args s = true := by
  rcases ho with ho | ho
  · exact C.ws _ (lw_g h ho)
  · cases w <;> simp [onT] at ho
    · exact va_Nw.use rfl (va_Nw.warmD C.wm (va_Nw.of rfl (C.1.2.2.1 _ h)))
    · exact va_Nw.use rfl (va_Nw.warmC C.wm (va_Nw.of rfl (C.1.2.2.1 _ h)))
theorem thAt {own : String} {ic : Nat} {E : String} {names : List String} (h : thOK own ic E names = true) {w : Cond} (hw : w ∈ vx_at0 own ic E names) : w ∈ lw_tbl ∧ (goodWord w = true ∨ onT w = true) ∧ vx_ot w = true := by
  have := List.all_eq_true.mp h w hw
  simp only [Bool.and_eq_true, Bool.or_eq_true, decide_eq_true_eq] at this
  exact ⟨this.1.1, this.1.2, this.2⟩
theorem X_throw0 {cls : String} {names : List String} {ik ic : Nat} (d0 : decode (mB M) pc = .ok (.new ik, 3)) (d3 : decode (mB M) (pc + 3) = .ok (.dup, 1)) (d4 : decode (mB M) (pc + 4) = .ok (.invokespecial ic, 3)) (d7 : decode (mB M) (pc + 7) = .ok (.athrow, 1)) (hN : mH M = none) (hk : Cond.classLink (mO M) ik cls ∈ lw_all) (hini : Cond.initialized cls ∈ lw_all) (hth : thOK (mO M) ic cls names = true) (hfit : Bundle.fit cls = true) (hnames : ∀ n ∈ names, Bundle.fit n = true) (hot : vx_ot (Cond.classLink (mO M) ik cls) = true ∧ vx_ot (Cond.initialized cls) = true) (hfr : names.length + 3 < d) (hloc : (st.map fun v => v.category).sum + (13 * (names.length + 1) + 42) ≤ 40 * d + 20) (ha : 1 ≤ a) (hb : 6 ≤ b) (kx : ∀ q, Ψ cls q G) : X κ d M pc L st G a b Φ Ψ := by
  intro p e s m args below meth c H locs cells slots mc ms ls C0 hR hS hl ha1 hb1
  refine vx_throw0 (A := kF κ) C0.ex C0.cd C0.1.1 (names := names) C0.ow hfit hnames (C0.ws _ hk) (C0.ws _ hini) (fun w hw => C0.tbl (thAt hth hw).1 (thAt hth hw).2.1) (fun w hw => ?_)
    ((vx_Zq.moved C0.wm.alike C0.1.2.2.2.2.2.2.2.2.2.2.1).kept (fun q h1 _ => C0.od q h1)) ((vx_Zq.moved C0.wm.alike C0.1.2.2.2.2.2.2.2.2.2.2.2.1).kept (fun q h1 _ => C0.od q h1)) hS (by rw [C0.ml]; exact hl.1) d0 d3 d4 d7 (fun x hx => (C0.no hN x hx).elim) hfr hloc (show cells + 1 ≤ mc by omega) (show slots + 6 ≤ ms by omega) C0.lk (fun t _ h1 h2 q9 => ?_) hS.2.2 (by omega) (by omega)
  · rcases List.mem_cons.mp hw with e1 | hw
    · rw [e1]; exact hot.1
    rcases List.mem_cons.mp hw with e1 | hw
    · rw [e1]; exact hot.2
    exact (thAt hth hw).2.2
  · have hR2 : Rp κ G t.heap := ⟨fun x hx => (hR.1 x hx).of (agr.rf G x) (h2 x (hR.lt hx)), Nat.le_trans hR.2.1 h1, fun x hx => (h2 x (Nat.lt_of_lt_of_le hx hR.2.1)).trans (hR.2.2.1 x hx), hR.2.2.2⟩
    have hS2 : va_S (kF κ) s.heap t.heap locs := ⟨Nat.le_trans hS.1 h1, fun x g1 g2 => (h2 x (Nat.lt_of_lt_of_le g1 hS.1)).trans (hS.2.1 x g1 g2), hS.2.2⟩
    exact ⟨G, kx q9, hR2, hS2.F rfl⟩
end XT
theorem th_IAE : thOK "ShadowSpell" 3 "java/lang/IllegalArgumentException" ["java/lang/RuntimeException", "java/lang/Exception"] = true := by decide +kernel
theorem th_ISE : thOK "ShadowSpell" 9 "java/lang/IllegalStateException" ["java/lang/RuntimeException", "java/lang/Exception"] = true := by decide +kernel
theorem th_IOE : thOK "ShadowSpell" 12 "java/lang/IndexOutOfBoundsException" ["java/lang/RuntimeException", "java/lang/Exception"] = true := by decide +kernel

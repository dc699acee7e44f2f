/-! ===== CORE 10: methods of the constants' own classes: nothing says that those classes are initialised, and nothing needs it ===== -/
/-- as vx_Met, for a start whose class may be in any state -/
def MetR (l : Launch) (y : MethodName) (ws : List Cond) (rm : Room) (Pc : Array Value → State → Prop) (Qf : Array Value → State → Outcome → State → Prop) : Prop :=
  ∀ (p : Program) (e : Env), l.admits e → FairCas e.choices → FairClock e.choices → ∀ (s : State) (m : MethodId) (args : Array Value) (below : List Frame),
    s.frames = .invoking m args :: below → s.status = .running → s.curStatus? = some .runnable → s.alone = true → s.methodNamed? y = some m → s.hears m below = true → s.hasRoom e.platform rm = true → (∀ w ∈ ws, w.before args s = true) → Pc args s →
    ∃ n o, (∀ k, k < n → Within (stepsAlone p.tables e k s) below) ∧ (stepsAlone p.tables e n s).status = .running ∧ Ended (stepsAlone p.tables e n s) below o ∧ Qf args s o (stepsAlone p.tables e n s)
theorem MetR.call {l : Launch} {x : MethodName} {ws : List Cond} {rm : Room} {P : Array Value → State → Prop} {Q : Array Value → State → Outcome → State → Prop} {e : Env} (hM : MetR l x ws rm P Q) (p : Program) (ha : l.admits e) (hc : FairCas e.choices) (hk : FairClock e.choices)
    {s : State} {m : MethodId} {args : Array Value} {acts : List Action} {mid below : List Frame} (hfr : s.frames = mid ++ below) (hcur : s.cur < s.threads.size) (h1 : (s.pushFrame (.invoking m args)).status = .running) (h2 : (s.pushFrame (.invoking m args)).curStatus? = some .runnable) (h3 : (s.pushFrame (.invoking m args)).alone = true) (h4 : (s.pushFrame (.invoking m args)).methodNamed? x = some m) (h5 : (s.pushFrame (.invoking m args)).hears m s.frames = true) (h6 : (s.pushFrame (.invoking m args)).hasRoom e.platform rm = true) (h7 : ∀ w ∈ ws, w.before args (s.pushFrame (.invoking m args)) = true) (hP : P args (s.pushFrame (.invoking m args))) :
    ∃ o s₂, Steps p.tables e below (doInvoke e s acts m args).1 s₂ ∧ s₂.status = .running ∧ Ended s₂ s.frames o ∧ Q args (s.pushFrame (.invoking m args)) o s₂ := by
  have ht : s.threads[s.cur]? = some s.threads[s.cur] := Array.getElem?_eq_getElem hcur
  have hf' : (s.pushFrame (.invoking m args)).frames = .invoking m args :: s.frames := State.frames_setFrames _ hcur
  have hgo : (s.pushFrame (.invoking m args)).goesOn := ⟨h1, h2, h3⟩
  obtain ⟨n, o, hw, hr, he, hp⟩ := hM p e ha hc hk (s.pushFrame (.invoking m args)) m args s.frames hf' h1 h2 h3 h4 h5 h6 h7 hP
  have hstep : (stepThread p.tables e (s.pushFrame (.invoking m args))).1 = (doInvoke e s acts m args).1 := by
    rw [stepThread_invoking hf', doInvoke_state e s acts, State.pushFrame, State.setFrames_setFrames, State.setFrames_self ht]
  cases n with
  | zero => exact absurd ⟨[.invoking m args], hf', by simp, by simp⟩ he.not_within
  | succ k =>
    rw [stepsAlone_succ _ hgo, hstep] at hr he hp
    refine ⟨o, _, ⟨k, rfl, fun j hj => ?_⟩, hr, he, hp⟩
    have := hw (j + 1) (by omega)
    rw [stepsAlone_succ _ hgo, hstep, hfr] at this
    exact this.weaken
def MOkR (M : XM) (n : Nat) : Prop := plainFor (mY M) = true ∧ ((mY M).cls ≠ "java/lang/invoke/MethodHandle" ∧ (mY M).cls ≠ "java/lang/invoke/VarHandle" ∧ (parseMethodDescriptor (mY M).desc).map (fun d => d.parameters.length) = some n) ∧ mN M ≤ 21 ∧ mW M ∈ lw_all ∧ mO M = (mY M).cls
section XR
variable {κ : Kx} {d : Nat} {M M' : XM} {pc : Nat} {L L' : List (Option Value)} {st stk : List Value} {G : Gt} {a b a1 b1 a2 b2 n : Nat} {Φ Φ' : Option Value → Gt → Prop} {Ψ : String → Nat → Gt → Prop}
theorem X_metR (hK : Kok κ) (hN : mH M = none) (hO : MOkR M n) {vs : List Value} (hL : entL vs ++ List.replicate (mN M - (entL vs).length) none = L) (hfit : (lg_sl vs).length ≤ mN M) (h : X κ d M 0 L [] G a b Φ Ψ) : MetR (kL κ) (mY M) (mW M :: lw_all) (rmX d a b) (PX κ vs G) (vx_Q (QX κ Φ) (EX κ Ψ) a b (kF κ)) := by
  intro p e ha hc hk s m args below hf hrun hable halone hname hhears hroom hpre hP
  obtain ⟨rfl, hWm, hR⟩ := hP
  have hw := hpre _ List.mem_cons_self
  rw [mW_code hN] at hw
  obtain ⟨meth, c, hmeth, hcode, hbytes, hlocals, hret, hlocks, hex, -⟩ := Cond.code_spec hname hw
  have hcur := State.cur_lt_of_frames hf
  have hf1 : (s.setFrames (.java (entryFrame m vs.toArray (mN M)) :: below)).frames = .java (entryFrame m vs.toArray (mN M)) :: below := State.frames_setFrames _ hcur
  have ht1 := State.topJava?_of_frames hf1
  have hplain : (s.setFrames (.java (entryFrame m vs.toArray (mN M)) :: below)).plainMethod m := State.plainMethod.of_named (s := s) hO.1 hname hmeth
  have hAt : At (s.setFrames (.java (entryFrame m vs.toArray (mN M)) :: below)) m c below :=
    ⟨by rw [ht1]; rfl, ⟨[], by rw [hf1]; rfl⟩, hrun, by simpa using hable, by simpa using halone, by rw [State.code?_eq]; simp [State.setFrames, hmeth, hcode], hplain⟩
  have hstep : (stepThread p.tables e s).1 = (s.setFrames (.java (entryFrame m vs.toArray (mN M)) :: below)).setTop (entryFrame m vs.toArray (mN M)) := by
    have hfull : e.platform.stackFull (s.setFrames below).me (s.setFrames below).frames c.maxLocals = false := by
      obtain ⟨-, h1, -, h2⟩ := State.hasRoom_stack hroom
      rw [hf, List.length_cons] at h1
      rw [State.localsInUse_invoking hf hmeth hcode] at h2
      have hw := stackUse_le_stackWeight below
      rw [State.frames_setFrames _ hcur]
      exact Platform.stackFull_eq_false (by rw [State.stackLimits_setFrames]; omega) (by rw [State.stackLimits_setFrames]; omega)
    rw [stepThread_invoking hf, (doInvoke_java (s := s.setFrames below) (e := e) (meth := meth) (code := c) hmeth hcode hlocks hfull).1, State.setTop_self ht1]
    simp only [State.pushFrame, State.frames_setFrames _ hcur, State.setFrames_setFrames, hlocals, entryFrame]
  obtain ⟨t0, ht0, -⟩ := State.frames_cons hf
  have hSame := (State.sameButNew.refl s ht0).setFrames (.java (entryFrame m vs.toArray (mN M)) :: below) hcur
  have hStand : Stand p (kL κ) e (rmX d a b) s m vs.toArray below meth c (s.setFrames (.java (entryFrame m vs.toArray (mN M)) :: below)) [] 0 0 :=
    ⟨ha, hc, hk, hf, hroom, hhears, hmeth, hcode, hAt, by rw [hf1]; rfl, State.WarmedH.refl s, by rw [State.stackLimits_setFrames], by rw [State.stackBytes_setFrames], hSame⟩
  have C0 : Cx κ M p s m vs.toArray meth c := by
    refine ⟨hK, by cases p <;> rfl, hbytes, hret, hlocks, hlocals, ?_, fun w h => hpre w (List.mem_cons_of_mem _ h), hWm, hR.2.1, hR.2.2.1, (name_of_methodNamed hname hmeth).1, fun _ x hx => ?_, fun hh hH => ?_⟩
    · rw [hO.2.2.2.2]; exact findClass_of_methodNamed hname
    · rw [Array.isEmpty_iff.mp hex] at hx
      cases hx
    · rw [hN] at hH; cases hH
  have hl := lv_entry vs hfit
  have hl' : lv_has ((lg_sl vs ++ List.replicate (mN M - (lg_sl vs).length) Slot.unset).toArray) (mN M) (en 0 L) := has_of hl (by rw [← hL]; exact entL_sub vs 0 _)
  have K := h p e s m vs.toArray below meth c s.heap [] 0 0 a b _ C0 hR va_S.rf hl' (by omega) (by omega)
  rw [← lg_entry_eq] at K
  obtain ⟨t, g1, o, g2, g3, g4⟩ := K (s.setFrames (.java (entryFrame m vs.toArray (mN M)) :: below)) rfl hStand
  obtain ⟨n9, hn, hw9⟩ := Steps.head (tb := p.tables) (e := e) ⟨hrun, hable, halone⟩ ⟨[.invoking m vs.toArray], hf, by simp, by simp⟩ (hstep ▸ g1)
  exact ⟨n9, o, hw9, hn ▸ g2, hn ▸ g3, hn ▸ g4⟩
end XR
theorem backR {l : Launch} {R : Room} {p : Program} {e : Env} {below : List Frame} {s : State} {sargs : Array Value} {y : MethodName} {len W9 : Nat} {ws : List Cond} {rm : Room} {Pc : Array Value → State → Prop} {Qc : Array Value → State → Outcome → State → Prop} {XC : String → Addr → State → State → Prop} {mc ms : Nat} {free : Addr → Prop} {bytes : ByteArray} {maxL : Nat} {ret : Option FieldType}
    (hM : MetR l y ws rm Pc (vx_Q Qc XC mc ms free)) (hblind : FrameBlind Pc) (hrc : rm.cells = mc) (hrs : rm.slots = ms)
    (hframes : rm.frames + 1 ≤ R.frames) (hlocals : W9 + (maxL + 11) + rm.locals ≤ R.locals)
    (hws : ∀ w ∈ ws, ∀ a' U, s.WarmedH U.vm → w.before a' U = true) (hcode : Cond.code y bytes maxL ret ∈ ws) :
    vx_Back l R p e below s sargs y len W9 (PreOf R mc ms Pc) (PostOf Qc mc ms free) (vx_Post XC mc ms free) := by
  intro m meth c A g ig mk a X hg hsize hdg hW hn hp
  have h1 : ∀ w ∈ ws, w.before a A.U = true := fun w hw => hws w hw _ _ X.warmed
  have h2 : (Cond.code y bytes maxL ret).before a A.U = true := hws _ hcode _ _ X.warmed
  have h4 : A.cells + (headSpec ws rm).room.cells ≤ R.cells := by rw [show (headSpec ws rm).room.cells = mc from hrc]; exact hp.1
  have h5 : A.slots + (headSpec ws rm).room.slots ≤ R.slots := by rw [show (headSpec ws rm).room.slots = ms from hrs]; exact hp.2.1
  have hPc : Pc a (A.U.calling g mk a) := hblind _ _ _ _ hp.2.2
  obtain ⟨U, Ls, c0, s0⟩ := A
  dsimp only [Pt.U, Pt.locs, Pt.cells, Pt.slots] at h1 h2 h4 h5 X hn hPc ⊢
  obtain ⟨methY, cY, hmY, hcY, -, hlY, -, -, -, -⟩ := Cond.code_spec hn h2
  have h : At U g.method c below := by rw [hg]; exact X.here
  have hlocals9 : W9 + (maxL + 11) + (headSpec ws rm).room.locals ≤ R.locals := hlocals
  have hroom := X.room_calling (g := g) (R' := (headSpec ws rm).room) hsize hmY hcY hframes (by rw [hlY]; omega) h4 h5 (args' := a)
  obtain ⟨mid, hmid⟩ := h.above
  have hfr : (U.setTop g).frames = (.java g :: mid) ++ below := by rw [State.frames_setTop' g h.top, hmid]; rfl
  obtain ⟨o, s₂, hsteps, -, hend, hq⟩ := MetR.call hM p X.admits X.cas X.clock (acts := []) (s := U.setTop g) (m := mk) (args := a) hfr (State.cur_lt_of_frames hfr) (show (U.calling g mk a).status = .running from h.running) (by simpa [State.calling] using h.runnable) (by simpa [State.calling] using h.alone) (show (U.calling g mk a).methodNamed? y = some mk from hn) (by
    have hcode9 : (U.calling g mk a).code? g.method = some c := by
      have := h.code
      rw [State.code?_eq] at this ⊢
      simpa [State.calling, State.pushFrame, State.setFrames] using this
    rw [hfr]
    show (U.calling g mk a).hears mk _ = true
    simp [State.hears, hcode9, hdg, Except.toOption]) hroom (fun w hw => by show w.before a (U.calling g mk a) = true; rw [State.calling_eq h.top, Cond.before_setFrames]; exact h1 w hw) hPc
  have hq' : vx_Q Qc XC mc ms free a (U.calling g mk a) o s₂ := hq
  rw [State.frames_setTop' g h.top] at hend
  obtain ⟨g₀, hg0⟩ := Option.isSome_iff_exists.mp h.top
  obtain ⟨r, hr⟩ := State.topJava?_eq_some.mp hg0
  have hr' : (({ U with heap := s₂.heap, slotsUsed := s₂.slotsUsed } : State).setVm s₂.vm).frames = .java g₀ :: r := hr
  rcases hq' with ⟨hqc, L, hfe, hL⟩ | ⟨q, rfl, E, ce, L, hx, hce, hcv, hcl, hW₂, hsm, hL⟩
  · obtain ⟨⟨v, rfl⟩, hW₂, e2, q2, q3, q4, q5, q6⟩ := id hfe
    have e3 : s₂ = ({ (U.calling g mk a).setFrames s₂.frames with heap := s₂.heap, slotsUsed := s₂.slotsUsed } : State).setVm s₂.vm := by
      have : s₂ = ({ s₂ with vm := (U.calling g mk a).vm } : State).setVm s₂.vm := rfl
      rw [e2] at this
      exact this
    obtain ⟨c₂, i₂, len₂, hc₂, hd₂, hf₂⟩ := hend
    have hW' : U.WarmedH s₂.vm := hW₂
    have hcc : c₂ = c := by
      have h1 : s₂.code? g.method = U.code? g.method := by
        rw [State.code?_eq, State.code?_eq, hW'.alike.method?]
      exact Option.some.inj (hc₂.symm.trans (h1.trans h.code))
    subst hcc
    have hlen : len₂ = len := by rw [hdg] at hd₂; cases hd₂; rfl
    subst hlen
    have hs₂ : s₂ = (({ U with heap := s₂.heap, slotsUsed := s₂.slotsUsed } : State).setVm s₂.vm).setTop { g with pc := g.pc + len₂, stack := v.toList ++ g.stack } := by
      refine e3.trans ?_
      rw [hf₂, State.calling_eq h.top, State.setFrames_setFrames, State.setTop_of_frames _ hr', hr]
      rfl
    have hsame : U.sameButNew ({ U with heap := s₂.heap, slotsUsed := s₂.slotsUsed } : State) L mc ms := by
      refine ⟨?_, q2, q3, q4, q5, q6⟩
      obtain ⟨t, ht, -⟩ := State.frames_cons hr
      show ({ U with heap := s₂.heap, slotsUsed := s₂.slotsUsed } : State) = { U.setFrames U.frames with heap := s₂.heap, slotsUsed := s₂.slotsUsed }
      rw [State.setFrames_self ht]
    subst hg
    refine Or.inl ⟨v, ⟨(({ U with heap := s₂.heap, slotsUsed := s₂.slotsUsed } : State).setVm s₂.vm), Ls ++ L, c0 + mc, s0 + ms⟩,
      ⟨X.admits, X.cas, X.clock, X.frames, X.room, X.hears, X.method, X.code, (X.here.setHeapUsed s₂.heap s₂.slotsUsed).setVm hW'.alike, X.tail, State.WarmedH.trans X.warmed hW', X.limits, X.bytes, X.same.trans (hsame.setVm s.vm)⟩,
      ⟨g, mk, s₂, L, rfl, rfl, hqc, rfl, hL, rfl, rfl⟩, ?_⟩
    show Steps p.tables e below _ ((({ U with heap := s₂.heap, slotsUsed := s₂.slotsUsed } : State).setVm s₂.vm).setTop { g with pc := g.pc + len₂, stack := v.toList ++ g.stack })
    rw [← hs₂]
    exact hsteps
  · obtain ⟨e2, q2, q3, q4, q5, q6⟩ := id hsm
    have e3 : s₂ = ({ (U.calling g mk a).setFrames s₂.frames with heap := s₂.heap, slotsUsed := s₂.slotsUsed } : State).setVm s₂.vm := by
      have : s₂ = ({ s₂ with vm := (U.calling g mk a).vm } : State).setVm s₂.vm := rfl
      rw [e2] at this
      exact this
    have hf₂ : s₂.frames = .throwing q :: .java g :: U.frames.tail := hend
    have hW' : U.WarmedH s₂.vm := hW₂
    have hs₂ : s₂ = ((({ U with heap := s₂.heap, slotsUsed := s₂.slotsUsed } : State).setVm s₂.vm).setTop g).pushFrame (.throwing q) := by
      refine e3.trans ?_
      rw [hf₂, State.calling_eq h.top, State.setFrames_setFrames, State.pushFrame, State.frames_setTop _ hr', State.setTop_of_frames _ hr', State.setFrames_setFrames, hr]
      rfl
    have hsame : U.sameButNew ({ U with heap := s₂.heap, slotsUsed := s₂.slotsUsed } : State) L mc ms := by
      refine ⟨?_, q2, q3, q4, q5, q6⟩
      obtain ⟨t, ht, -⟩ := State.frames_cons hr
      show ({ U with heap := s₂.heap, slotsUsed := s₂.slotsUsed } : State) = { U.setFrames U.frames with heap := s₂.heap, slotsUsed := s₂.slotsUsed }
      rw [State.setFrames_self ht]
    subst hg
    refine Or.inr ⟨q, ⟨(({ U with heap := s₂.heap, slotsUsed := s₂.slotsUsed } : State).setVm s₂.vm), Ls ++ L, c0 + mc, s0 + ms⟩,
      ⟨X.admits, X.cas, X.clock, X.frames, X.room, X.hears, X.method, X.code, (X.here.setHeapUsed s₂.heap s₂.slotsUsed).setVm hW'.alike, X.tail, State.WarmedH.trans X.warmed hW', X.limits, X.bytes, X.same.trans (hsame.setVm s.vm)⟩,
      ⟨g, mk, s₂, L, E, ce, rfl, rfl, hx, hce, hcv, hcl, rfl, hL, rfl, rfl⟩, ?_⟩
    show Steps p.tables e below _ (((({ U with heap := s₂.heap, slotsUsed := s₂.slotsUsed } : State).setVm s₂.vm).setTop g).pushFrame (.throwing q))
    rw [← hs₂]
    exact hsteps
/-! the call of an overriding method of a constant's own class -/
section XR2
variable {κ : Kx} {d : Nat} {M M' : XM} {pc : Nat} {L L' : List (Option Value)} {st stk : List Value} {G : Gt} {a b a1 b1 a2 b2 n : Nat} {Φ Φ' : Option Value → Gt → Prop} {Ψ : String → Nat → Gt → Prop}
theorem X_callR {x : MethodName} {r index : Nat} {C owner : String} {As : List Value} (q : Nat) (hd : decode (mB M) pc = .ok (.invokevirtual index, 3)) (hq : pc + 3 = q) (hN : mH M = none) (hO : MOkR M' n) (hN' : mH M' = none) (w1 : Cond.methodLink (mO M) index x ∈ lw_all) (w2 : Cond.sameMethod x.cls owner x.name x.desc ∈ lw_all) (w3 : Cond.selects C x (mY M') ∈ lw_all) (w4 : Cond.instanceMethod (mY M') ∈ lw_all)
    (hdc : (mY M' = ⟨owner, x.name, x.desc⟩) ∨ (Cond.declares ⟨owner, x.name, x.desc⟩ ∈ lw_tbl) ∨ (Cond.instanceMethod ⟨owner, x.name, x.desc⟩ ∈ lw_all ∧ ∃ b0 m0 r0, Cond.code ⟨owner, x.name, x.desc⟩ b0 m0 r0 ∈ lw_all)) (ho : owner ≠ "java/lang/invoke/MethodHandle" ∧ owner ≠ "java/lang/invoke/VarHandle") (hds : x.desc = (mY M').desc) (hrv : RV κ G r C) (hst : stk = As.reverse ++ .ref r :: st) (hAs : As.length = n) (hcs : (st.map fun v => v.category).sum ≤ 8)
    (hL : entL (.ref r :: As) ++ List.replicate (mN M' - (entL (.ref r :: As)).length) none = L') (hfit : (lg_sl (.ref r :: As)).length ≤ mN M') (ha : a1 + a2 ≤ a) (hb : b1 + b2 ≤ b) (hx : X κ d M' 0 L' [] G a1 b1 (fun v G' => X κ (d + 1) M q L (v.toList ++ st) G' a2 b2 Φ Ψ) Ψ) : X κ (d + 1) M pc L stk G a b Φ Ψ := by
  subst hq
  subst hst
  intro p e s m args below meth c H locs cells slots mc ms ls C0 hR hS hl ha1 hb1
  have hM := X_metR C0.1 hN' hO hL hfit hx
  rw [mW_code hN'] at hM
  have hcode : Cond.code (mY M') (mB M') (mN M') (mR M') ∈ lw_all := by rw [← mW_code hN']; exact hO.2.2.2.1
  have hdecl : va_Decl s ⟨owner, x.name, x.desc⟩ := by
    rcases hdc with e1 | e1 | ⟨e1, b0, m0, r0, e2⟩
    · rw [← e1]; exact va_Decl.of (C0.ws _ w4) (C0.ws _ hcode)
    · exact va_Decl.abs (va_Nw.warmD C0.wm (va_Nw.of rfl (C0.1.2.2.1 _ e1)))
    · exact va_Decl.of (C0.ws _ e1) (C0.ws _ e2)
  have hlen : ∀ sig, parseMethodDescriptor x.desc = some sig → As.length = sig.parameters.length := by
    intro sig h
    have h2 := hO.2.1.2.2
    rw [← hds, h] at h2
    rw [hAs]
    exact (Option.some.inj h2).symm
  have hrl : 8 + (mN M' + 11) + (rmX d a1 b1).locals ≤ (rmX (d + 1) mc ms).locals := by
    have := hO.2.2.1
    simp only [rmX]
    omega
  have hK : vx_Back (kL κ) (rmX (d + 1) mc ms) p e below s args (mY M') 3 8 (PreOf (rmX (d + 1) mc ms) a1 b1 (PX κ (.ref r :: As) G)) (PostOf (QX κ (fun v G' => X κ (d + 1) M (pc + 3) L (v.toList ++ st) G' a2 b2 Φ Ψ)) a1 b1 (kF κ)) (vx_Post (EX κ Ψ) a1 b1 (kF κ)) :=
    backR (bytes := mB M') (maxL := mN M') (ret := mR M') hM PX_blind rfl rfl (Nat.le_refl _) hrl (pay_in C0.ws (lw_meth hcode)) List.mem_cons_self
  obtain ⟨cellB, hcB, hoB, hclB⟩ := hrv.cell C0 hR hS
  refine X_fin (a1 := a1) (b1 := b1) (a2 := a2) (b2 := b2) C0 hS hl hN (av := (Value.ref r :: As).toArray) (Φ' := (fun v G' => X κ (d + 1) M (pc + 3) L (v.toList ++ st) G' a2 b2 Φ Ψ)) ?_ (by omega) (by omega) (fun r G' h => h)
  intro T hT X9
  rcases vx_callVU X9 C0.ex (C := C) (owner := owner) (bytes := mB M') (maxL := mN M') (ret := mR M') C0.ow (C0.ws _ w1) (C0.ws _ w2) hdecl ho (C0.ws _ w3) (C0.ws _ w4) (C0.ws _ hcode) hK (by rw [hT]; exact hcB) hoB hclB (g := F0 m pc ls (As.reverse ++ .ref r :: st)) rfl (by rw [C0.ml]; exact hl.1) (argsL := As) (rest := st) hlen rfl (lv_room hcs) (by rw [C0.cd]; exact hd)
    (fun vm₁ hW₁ => ⟨show cells + a1 ≤ mc by omega, show slots + b1 ≤ ms by omega, rfl, State.WarmedH.trans C0.wm hW₁, by show Rp κ G (T.setVm vm₁).heap; rw [show (T.setVm vm₁).heap = T.heap from rfl, hT]; exact hR⟩) with ⟨v, vm₁, ⟨U', l2, c2, s2⟩, hW₁, X', ⟨g', mk, t, L9, e1, e2, hq, h1, hL9, h2, h3⟩, st9⟩ | ⟨q, vm₁, ⟨U', l2, c2, s2⟩, hW₁, X', ⟨g', mk, t, L9, E, ce, e1, e2, hq, hce, hcv, hcl, h1, hL9, h2, h3⟩, st9⟩
  · dsimp only [Pt.U, Pt.locs, Pt.cells, Pt.slots] at X' e1 e2 h1 h2 h3 st9
    subst h1; subst h2; subst h3
    exact Or.inl ⟨v, (T.setVm vm₁).calling g' mk (Value.ref r :: As).toArray, t, U', L9, hT, X', hL9, e1, e2, hq, st9⟩
  · dsimp only [Pt.U, Pt.locs, Pt.cells, Pt.slots] at X' e1 e2 h1 h2 h3 st9 hcl
    subst h1; subst h2; subst h3
    exact Or.inr ⟨q, (T.setVm vm₁).calling g' mk (Value.ref r :: As).toArray, t, U', L9, E, ce, hT, X', hL9, e1, e2, hq, hce, hcv, vx_cls hW₁ hcl, st9⟩
end XR2

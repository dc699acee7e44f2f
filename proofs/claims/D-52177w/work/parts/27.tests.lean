set_option maxRecDepth 100000
/-! ===== tests over a sky ===== -/
/-- a list that is only read: n elements f -/
def AW (G : Gt) (l n : Nat) (f : Nat → Nat) : Prop := gT G l = 23 ∧ gI G 23 2 l = nI n ∧ n ≤ 100000 ∧ ∃ e, gR G 23 1 l = some e ∧ gT G e = 103 ∧ n ≤ gL G e ∧ ∀ i, i < n → eR G e i = some (f i)
/-- a list that nobody changes any more -/
def AF (G : Gt) (l n : Nat) (f : Nat → Nat) : Prop := gT G l = 23 ∧ ow G l = none ∧ gI G 23 2 l = nI n ∧ n ≤ 100000 ∧ ∃ e, gR G 23 1 l = some e ∧ gT G e = 103 ∧ ow G e = none ∧ n ≤ gL G e ∧ ∀ i, i < n → eR G e i = some (f i)
theorem AF.w {G : Gt} {l n : Nat} {f : Nat → Nat} (h : AF G l n f) : AW G l n f := by
  obtain ⟨h1, h2, h3, h4, e, e1, e2, e3, e4, e5⟩ := h
  exact ⟨h1, h3, h4, e, e1, e2, e4, e5⟩
theorem AL.w {κ : Kx} {G : Gt} {l n cap : Nat} {f : Nat → Nat} (h : AL κ G l n f cap) : AW G l n f := by
  obtain ⟨h1, h2, h3, h4, h5, h6, h7, e, e1, e2, e3, e4, e6, e5⟩ := h
  exact ⟨h1, h4, by omega, e, e1, e2, by omega, e4⟩
theorem AF.md {S : List Nat} {G G' : Gt} {l n : Nat} {f : Nat → Nat} (h : AF G l n f) (m : Md S G G') : AF G' l n f := by
  obtain ⟨h1, h2, h3, h4, e, e1, e2, e3, e4, e5⟩ := h
  have a1 := m.a (a := l) (by rw [h1]; decide) (fun _ _ => by rw [h2]; exact fun q => by cases q)
  have a2 := m.a (a := e) (by rw [e2]; decide) (fun _ _ => by rw [e3]; exact fun q => by cases q)
  exact ⟨a1.t.trans h1, a1.o.trans h2, (a1.i (by decide)).trans h3, h4, e, (a1.r 23 1).trans e1, a2.t.trans e2, a2.o.trans e3, by rw [a2.l]; exact e4, fun i hi => (a2.er i).trans (e5 i hi)⟩
set_option maxHeartbeats 400000 in
theorem aw_size_ok {κ : Kx} {d a b : Nat} {G : Gt} {Φ : Option Value → Gt → Prop} {Ψ : String → Nat → Gt → Prop} {l n : Nat} {f : Nat → Nat} (h : AW G l n f) (k : Φ (some (.int (nI n))) G) : X κ d mJ2_size 0 [some (.ref l)] [] G a b Φ Ψ := by
  refine X_aload_n 1 dJ2_size_0 rfl rfl ?_
  refine X_getI (t := 23) (k := 2) 4 dJ2_size_1 rfl rfl (by decide) (by decide) (Or.inl rfl) q184 rfl h.1 ?_
  refine X_iret dJ2_size_4 rfl ?_
  rw [h.2.1]
  exact k
set_option maxHeartbeats 400000 in
theorem aw_elementData_ok {κ : Kx} {d a b : Nat} {G : Gt} {Φ : Option Value → Gt → Prop} {Ψ : String → Nat → Gt → Prop} {l n i : Nat} {x : Int32} {f : Nat → Nat} (h : AW G l n f) (hx : x = nI i) (hi : i < n) (k : Φ (some (.ref (f i))) G) : X κ d mJ2_elementData 0 [some (.ref l), some (.int x)] [] G a b Φ Ψ := by
  obtain ⟨h1, h2, h3, e, e1, e2, e3, e4⟩ := h
  refine X_aload_n 1 dJ2_elementData_0 rfl rfl ?_
  refine X_getR (t := 23) (k := 1) 4 dJ2_elementData_1 rfl rfl (by decide) (by decide) (Or.inl rfl) q181 rfl h1 e1 ?_
  refine X_iload_n 5 dJ2_elementData_4 rfl rfl ?_
  refine X_aaload (t := 103) (i) 6 dJ2_elementData_5 rfl e2 (by decide) hx (by omega) (e4 i hi) ?_
  refine X_aret dJ2_elementData_6 rfl (Or.inl ⟨_, rfl⟩) ?_
  exact k
set_option maxHeartbeats 400000 in
theorem aw_get_ok {κ : Kx} {d a b : Nat} {G : Gt} {Φ : Option Value → Gt → Prop} {Ψ : String → Nat → Gt → Prop} {l n : Nat} {x : Int32} {f : Nat → Nat} (h : AW G l n f) (i : Nat) (hx : x = nI i) (hi : i < n) (k : Φ (some (.ref (f i))) G) : X κ (d + 2) mJ2_get 0 [some (.ref l), some (.int x)] [] G a b Φ Ψ := by
  refine X_iload_n 1 dJ2_get_0 rfl rfl ?_
  refine X_aload_n 2 dJ2_get_1 rfl rfl ?_
  refine X_getI (t := 23) (k := 2) 5 dJ2_get_2 rfl rfl (by decide) (by decide) (Or.inl rfl) q184 rfl h.1 ?_
  rw [h.2.1]
  refine X_S2z 8 dJ2_get_5 rfl rfl mo_J23_checkIndex rfl q894 q895 rfl (Nat.le_of_ble_eq_true rfl) rfl (Nat.le_of_ble_eq_true rfl) ?_
  refine ci23_ok i n hx rfl hi (by have := h.2.2.1; omega) ?_
  refine X_pop 9 dJ2_get_8 rfl rfl ?_
  refine X_aload_n 10 dJ2_get_9 rfl rfl ?_
  refine X_iload_n 11 dJ2_get_10 rfl rfl ?_
  refine X_V1z 14 dJ2_get_11 rfl rfl mo_J2_elementData rfl q898 q899 q900 rfl (RV.t (t := 23) h.1 (by decide) rfl) rfl (Nat.le_of_ble_eq_true rfl) rfl (Nat.le_of_ble_eq_true rfl) ?_
  refine aw_elementData_ok h hx hi ?_
  refine X_aret dJ2_get_14 rfl (Or.inl ⟨_, rfl⟩) ?_
  exact k
/-- what the sign of a comparison asks, by the first and the last byte of its text -/
def cmpB (x y c0 c1 : Int32) : Bool := if x < y then decide (ch c0 = 60) else if x = y then decide (ch c1 = 61) else decide (ch c0 = 62)
/-- the test at r is E -/
def TE (κ : Kx) (n : Nat) : Nat → Gt → Nat → (Sv → Bool) → Prop
  | 0, _, _, _ => False
  | m + 1, G, r, E => ow G r = none ∧ ((gT G r = 13 ∧ ∃ i, i < n ∧ gI G 13 0 r = nI i ∧ E = fun v => retB (vP v i) (vD v)) ∨
    (gT G r = 14 ∧ ∃ j i i', (j = 6 ∨ j = 7) ∧ gR G 14 0 r = some (kC κ j) ∧ gI G 14 1 r = nI i ∧ gI G 14 2 r = nI i' ∧ i < n ∧ i' < n ∧ E = fun v => (decide (j = 7) || decide (vP v i 1 ≤ vP v i' 1)) && mt (vP v i 5) (vP v i' 5) (vP v i 6) (vP v i' 6) (tn j)) ∨
    (gT G r = 15 ∧ ∃ sg L f s t E1 E2, gR G 15 0 r = some sg ∧ ST G sg L f ∧ 0 < L ∧ gR G 15 1 r = some s ∧ gR G 15 2 r = some t ∧ SU κ n m G s E1 ∧ SU κ n m G t E2 ∧ E = fun v => cmpB (E1 v) (E2 v) (f 0) (f (L - 1))) ∨
    (gT G r = 12 ∧ ∃ s E1, gR G 12 0 r = some s ∧ (gT G s = 11 ∨ gT G s = 12 ∨ gT G s = 13 ∨ gT G s = 14 ∨ gT G s = 15) ∧ TE κ n m G s E1 ∧ E = fun v => !(E1 v)) ∨
    (gT G r = 11 ∧ ∃ (all : Bool) (l cnt : Nat) (ts : Nat → Nat) (Es : Nat → Sv → Bool), gI G 11 0 r = b01 (all = true) ∧ gR G 11 1 r = some l ∧ AF G l cnt ts ∧ (∀ i, i < cnt → TE κ n m G (ts i) (Es i)) ∧ E = fun v => if all then (List.range cnt).all (fun i => Es i v) else (List.range cnt).any (fun i => Es i v)))
theorem TE.md {κ : Kx} {n : Nat} {S : List Nat} {G G' : Gt} (w : Md S G G') : ∀ (m r : Nat) (E : Sv → Bool), TE κ n m G r E → TE κ n m G' r E
  | 0, _, _, h => h
  | m + 1, r, E, h => by
    obtain ⟨ho, h⟩ := h
    have hk : gT G r ≠ 0 := by rcases h with ⟨t, -⟩ | ⟨t, -⟩ | ⟨t, -⟩ | ⟨t, -⟩ | ⟨t, -⟩ <;> rw [t] <;> decide
    have a1 := w.a hk (fun _ _ => by rw [ho]; exact fun q => by cases q)
    refine ⟨a1.o.trans ho, ?_⟩
    rcases h with ⟨t, i, h1, h2, e⟩ | ⟨t, j, i, i', h1, h2, h3, h4, h5, h6, e⟩ | ⟨t, sg, L, f, s, t2, E1, E2, h1, h2, h3, h4, h5, h6, h7, e⟩ | ⟨t, s, E1, h1, h2, h3, e⟩ | ⟨t, all, l, cnt, ts, Es, h1, h2, h3, h4, e⟩
    · exact Or.inl ⟨a1.t.trans t, i, h1, (a1.i (by decide)).trans h2, e⟩
    · exact Or.inr (Or.inl ⟨a1.t.trans t, j, i, i', h1, (a1.r 14 0).trans h2, (a1.i (by decide)).trans h3, (a1.i (by decide)).trans h4, h5, h6, e⟩)
    · exact Or.inr (Or.inr (Or.inl ⟨a1.t.trans t, sg, L, f, s, t2, E1, E2, (a1.r 15 0).trans h1, h2.md w, h3, (a1.r 15 1).trans h4, (a1.r 15 2).trans h5, SU.md w m s E1 h6, SU.md w m t2 E2 h7, e⟩))
    · refine Or.inr (Or.inr (Or.inr (Or.inl ⟨a1.t.trans t, s, E1, (a1.r 12 0).trans h1, ?_, TE.md w m s E1 h3, e⟩)))
      have hs : gT G s ≠ 0 := by rcases h2 with q | q | q | q | q <;> rw [q] <;> decide
      rw [w.k hs]; exact h2
    · exact Or.inr (Or.inr (Or.inr (Or.inr ⟨a1.t.trans t, all, l, cnt, ts, Es, (a1.i (by decide)).trans h1, (a1.r 11 1).trans h2, h3.md w, fun i hi => TE.md w m (ts i) (Es i) (h4 i hi), e⟩)))
set_option maxHeartbeats 400000 in
theorem s13_ok {κ : Kx} {d a b : Nat} {G : Gt} {Φ : Option Value → Gt → Prop} {Ψ : String → Nat → Gt → Prop} {sky l cap sb cs : Nat} {ps : Nat → Nat} {v : Sv} (h : SK κ G sky l ps cap sb cs v) {r : Nat} (t : gT G r = 13) (i : Nat) (hi : i < vN v) (hx : gI G 13 0 r = nI i) (k : Φ (some (.int (b01 (retB (vP v i) (vD v) = true)))) G) : X κ (d + 3) mX15_holds 0 [some (.ref r), some (.ref sky)] [] G a b Φ Ψ := by
  obtain ⟨g1, g2, g3, g4, g5, g6, g7, g8, g9, g10, g11⟩ := id h
  refine X_aload_n 1 dX15_holds_0 rfl rfl ?_
  refine X_gnR (t := 3) (k := 0) 4 dX15_holds_1 rfl rfl (by decide) (by decide) q229 rfl g1 g5 ?_
  refine X_aload_n 5 dX15_holds_4 rfl rfl ?_
  refine X_getI (t := 13) (k := 0) 8 dX15_holds_5 rfl rfl (by decide) (by decide) (Or.inl rfl) q1810 rfl t ?_
  refine X_V1z 11 dX15_holds_8 rfl rfl mo_J2_get rfl q2295 q891 q3185 rfl (RV.t (t := 23) g6.1 (by decide) rfl) rfl (Nat.le_of_ble_eq_true rfl) rfl (Nat.le_of_ble_eq_true rfl) ?_
  refine al_get_ok g6 i hx hi ?_
  refine X_cast (t := 4) 14 dX15_holds_11 rfl (g7 i hi).1 (by decide) rfl q2296 (Or.inl rfl) ?_
  refine X_aload_n 15 dX15_holds_14 rfl rfl ?_
  refine X_gnI (t := 3) (k := 4) 18 dX15_holds_15 rfl rfl (by decide) (by decide) q245 rfl g1 ?_
  rw [g4]
  refine X_V1z 21 dX15_holds_18 rfl rfl mo_X11_isRetro rfl q2297 q2272 q2273 rfl (RV.t (t := 4) (g7 i hi).1 (by decide) rfl) rfl (Nat.le_of_ble_eq_true rfl) rfl (Nat.le_of_ble_eq_true rfl) ?_
  refine pRetro_ok (g7 i hi) (g11 i hi) ?_
  refine X_zret dX15_holds_21 rfl (by by_cases q : retB (vP v i) (vD v) = true; (rw [b01_t q]; rfl); (rw [b01_f q]; rfl)) ?_
  exact k
theorem c_ne {κ : Kx} {G : Gt} (h : Bs κ G) {i j : Nat} (hi : i < 20) (hj : j < 20) (hij : i ≠ j) : ¬ kC κ i = kC κ j := fun e => hij (h.1.2.2.2.2.2.2.2.2.1 i j hi hj e)
set_option maxHeartbeats 400000 in
theorem s14_6_ok {κ : Kx} {d a b : Nat} {G : Gt} {Φ : Option Value → Gt → Prop} {Ψ : String → Nat → Gt → Prop} {sky l cap sb cs : Nat} {ps : Nat → Nat} {v : Sv} (h : SK κ G sky l ps cap sb cs v) {r : Nat} (t : gT G r = 14) (i i' : Nat) (hi : i < vN v) (hi' : i' < vN v) (ha : gR G 14 0 r = some (kC κ 6)) (hx : gI G 14 1 r = nI i) (hx' : gI G 14 2 r = nI i') (k : Φ (some (.int (b01 ((decide (vP v i 1 ≤ vP v i' 1) && mt (vP v i 5) (vP v i' 5) (vP v i 6) (vP v i' 6) (tn 6)) = true)))) G) : X κ (d + 3) mX17_holds 0 [some (.ref r), some (.ref sky), none, none] [] G a b Φ Ψ := by
  refine X.bs fun hbs => ?_
  obtain ⟨g1, g2, g3, g4, g5, g6, g7, g8, g9, g10, g11⟩ := id h
  refine X_aload_n 1 dX17_holds_0 rfl rfl ?_
  refine X_gnR (t := 3) (k := 0) 4 dX17_holds_1 rfl rfl (by decide) (by decide) q232 rfl g1 g5 ?_
  refine X_aload_n 5 dX17_holds_4 rfl rfl ?_
  refine X_getI (t := 14) (k := 1) 8 dX17_holds_5 rfl rfl (by decide) (by decide) (Or.inl rfl) q1835 rfl t ?_
  refine X_V1z 11 dX17_holds_8 rfl rfl mo_J2_get rfl q2395 q891 q3185 rfl (RV.t (t := 23) g6.1 (by decide) rfl) rfl (Nat.le_of_ble_eq_true rfl) rfl (Nat.le_of_ble_eq_true rfl) ?_
  refine al_get_ok g6 i hx hi ?_
  refine X_cast (t := 4) 14 dX17_holds_11 rfl (g7 i hi).1 (by decide) rfl q2396 (Or.inl rfl) ?_
  refine X_astore2 15 dX17_holds_14 rfl (by decide) rfl ?_
  refine X_aload_n 16 dX17_holds_15 rfl rfl ?_
  refine X_gnR (t := 3) (k := 0) 19 dX17_holds_16 rfl rfl (by decide) (by decide) q232 rfl g1 g5 ?_
  refine X_aload_n 20 dX17_holds_19 rfl rfl ?_
  refine X_getI (t := 14) (k := 2) 23 dX17_holds_20 rfl rfl (by decide) (by decide) (Or.inl rfl) q1836 rfl t ?_
  refine X_V1z 26 dX17_holds_23 rfl rfl mo_J2_get rfl q2395 q891 q3185 rfl (RV.t (t := 23) g6.1 (by decide) rfl) rfl (Nat.le_of_ble_eq_true rfl) rfl (Nat.le_of_ble_eq_true rfl) ?_
  refine al_get_ok g6 i' hx' hi' ?_
  refine X_cast (t := 4) 29 dX17_holds_26 rfl (g7 i' hi').1 (by decide) rfl q2396 (Or.inl rfl) ?_
  refine X_astore3 30 dX17_holds_29 rfl (by decide) rfl ?_
  refine X_aload_n 31 dX17_holds_30 rfl rfl ?_
  refine X_getR (t := 14) (k := 0) 34 dX17_holds_31 rfl rfl (by decide) (by decide) (Or.inl rfl) q1834 rfl t ha ?_
  refine X_getsR 37 7 dX17_holds_34 rfl rfl q2397 ?_
  refine X_acmp_eq 51 40 dX17_holds_37 (by decide) rfl (fun c => absurd c (c_ne hbs (by omega) (by omega) (by omega))) (fun _ => ?_)
  refine X_aload_n 41 dX17_holds_40 rfl rfl ?_
  refine X_gnI (t := 4) (k := 1) 44 dX17_holds_41 rfl rfl (by decide) (by decide) q1667 rfl (g7 i hi).1 ?_
  rw [(g7 i hi).2.2.2 1 (by omega) (by omega)]
  refine X_aload_n 45 dX17_holds_44 rfl rfl ?_
  refine X_gnI (t := 4) (k := 1) 48 dX17_holds_45 rfl rfl (by decide) (by decide) q1667 rfl (g7 i' hi').1 ?_
  rw [(g7 i' hi').2.2.2 1 (by omega) (by omega)]
  refine X_icmp_gt 67 51 dX17_holds_48 (by decide) rfl (fun c_48 => ?_) (fun c_48 => ?_)
  · refine X_iconst (v := 0) 68 dX17_holds_67 rfl (by decide) ?_
    refine X_zret dX17_holds_68 rfl rfl ?_
    first
      | (rw [b01_f (fun q => by simp only [Bool.and_eq_true, decide_eq_true_eq] at q; exact Int32.not_le.mpr c_48 q.1)] at k; exact k)
      | (rw [b01_f (fun q => by simp only [Bool.and_eq_true, decide_eq_true_eq] at q; exact b01_0.mp c_60 q.2)] at k; exact k)
      | (rw [b01_t (by simp only [Bool.and_eq_true, decide_eq_true_eq]; exact ⟨Int32.not_lt.mp c_48, Decidable.not_not.mp (fun q => c_60 (b01_0.mpr q))⟩)] at k; exact k)
  · refine X_aload_n 52 dX17_holds_51 rfl rfl ?_
    refine X_getR (t := 14) (k := 0) 55 dX17_holds_52 rfl rfl (by decide) (by decide) (Or.inl rfl) q1834 rfl t ha ?_
    refine X_aload_n 56 dX17_holds_55 rfl rfl ?_
    refine X_aload_n 57 dX17_holds_56 rfl rfl ?_
    refine X_U2z (owner := "ShadowSpell$Aspect") 60 dX17_holds_57 rfl rfl mo_X16_is rfl q2398 q2400 q2401 q2399 (Or.inl rfl) (by decide) rfl (RV.c (i := 6) (by decide)) rfl (Nat.le_of_ble_eq_true rfl) rfl (Nat.le_of_ble_eq_true rfl) ?_
    refine is6_ok (g7 i hi) (g7 i' hi') ?_
    refine X_if_eq 67 63 dX17_holds_60 (by decide) rfl (fun c_60 => ?_) (fun c_60 => ?_)
    · refine X_iconst (v := 0) 68 dX17_holds_67 rfl (by decide) ?_
      refine X_zret dX17_holds_68 rfl rfl ?_
      first
        | (rw [b01_f (fun q => by simp only [Bool.and_eq_true, decide_eq_true_eq] at q; exact Int32.not_le.mpr c_48 q.1)] at k; exact k)
        | (rw [b01_f (fun q => by simp only [Bool.and_eq_true, decide_eq_true_eq] at q; exact b01_0.mp c_60 q.2)] at k; exact k)
        | (rw [b01_t (by simp only [Bool.and_eq_true, decide_eq_true_eq]; exact ⟨Int32.not_lt.mp c_48, Decidable.not_not.mp (fun q => c_60 (b01_0.mpr q))⟩)] at k; exact k)
    · refine X_iconst (v := 1) 64 dX17_holds_63 rfl (by decide) ?_
      refine X_goto 68 dX17_holds_64 (by decide) ?_
      refine X_zret dX17_holds_68 rfl rfl ?_
      first
        | (rw [b01_f (fun q => by simp only [Bool.and_eq_true, decide_eq_true_eq] at q; exact Int32.not_le.mpr c_48 q.1)] at k; exact k)
        | (rw [b01_f (fun q => by simp only [Bool.and_eq_true, decide_eq_true_eq] at q; exact b01_0.mp c_60 q.2)] at k; exact k)
        | (rw [b01_t (by simp only [Bool.and_eq_true, decide_eq_true_eq]; exact ⟨Int32.not_lt.mp c_48, Decidable.not_not.mp (fun q => c_60 (b01_0.mpr q))⟩)] at k; exact k)
set_option maxHeartbeats 400000 in
theorem s14_7_ok {κ : Kx} {d a b : Nat} {G : Gt} {Φ : Option Value → Gt → Prop} {Ψ : String → Nat → Gt → Prop} {sky l cap sb cs : Nat} {ps : Nat → Nat} {v : Sv} (h : SK κ G sky l ps cap sb cs v) {r : Nat} (t : gT G r = 14) (i i' : Nat) (hi : i < vN v) (hi' : i' < vN v) (ha : gR G 14 0 r = some (kC κ 7)) (hx : gI G 14 1 r = nI i) (hx' : gI G 14 2 r = nI i') (k : Φ (some (.int (b01 ((mt (vP v i 5) (vP v i' 5) (vP v i 6) (vP v i' 6) (tn 7)) = true)))) G) : X κ (d + 3) mX17_holds 0 [some (.ref r), some (.ref sky), none, none] [] G a b Φ Ψ := by
  refine X.bs fun hbs => ?_
  obtain ⟨g1, g2, g3, g4, g5, g6, g7, g8, g9, g10, g11⟩ := id h
  refine X_aload_n 1 dX17_holds_0 rfl rfl ?_
  refine X_gnR (t := 3) (k := 0) 4 dX17_holds_1 rfl rfl (by decide) (by decide) q232 rfl g1 g5 ?_
  refine X_aload_n 5 dX17_holds_4 rfl rfl ?_
  refine X_getI (t := 14) (k := 1) 8 dX17_holds_5 rfl rfl (by decide) (by decide) (Or.inl rfl) q1835 rfl t ?_
  refine X_V1z 11 dX17_holds_8 rfl rfl mo_J2_get rfl q2395 q891 q3185 rfl (RV.t (t := 23) g6.1 (by decide) rfl) rfl (Nat.le_of_ble_eq_true rfl) rfl (Nat.le_of_ble_eq_true rfl) ?_
  refine al_get_ok g6 i hx hi ?_
  refine X_cast (t := 4) 14 dX17_holds_11 rfl (g7 i hi).1 (by decide) rfl q2396 (Or.inl rfl) ?_
  refine X_astore2 15 dX17_holds_14 rfl (by decide) rfl ?_
  refine X_aload_n 16 dX17_holds_15 rfl rfl ?_
  refine X_gnR (t := 3) (k := 0) 19 dX17_holds_16 rfl rfl (by decide) (by decide) q232 rfl g1 g5 ?_
  refine X_aload_n 20 dX17_holds_19 rfl rfl ?_
  refine X_getI (t := 14) (k := 2) 23 dX17_holds_20 rfl rfl (by decide) (by decide) (Or.inl rfl) q1836 rfl t ?_
  refine X_V1z 26 dX17_holds_23 rfl rfl mo_J2_get rfl q2395 q891 q3185 rfl (RV.t (t := 23) g6.1 (by decide) rfl) rfl (Nat.le_of_ble_eq_true rfl) rfl (Nat.le_of_ble_eq_true rfl) ?_
  refine al_get_ok g6 i' hx' hi' ?_
  refine X_cast (t := 4) 29 dX17_holds_26 rfl (g7 i' hi').1 (by decide) rfl q2396 (Or.inl rfl) ?_
  refine X_astore3 30 dX17_holds_29 rfl (by decide) rfl ?_
  refine X_aload_n 31 dX17_holds_30 rfl rfl ?_
  refine X_getR (t := 14) (k := 0) 34 dX17_holds_31 rfl rfl (by decide) (by decide) (Or.inl rfl) q1834 rfl t ha ?_
  refine X_getsR 37 7 dX17_holds_34 rfl rfl q2397 ?_
  refine X_acmp_eq 51 40 dX17_holds_37 (by decide) rfl (fun _ => ?_) (fun c => absurd (rfl) c)
  refine X_aload_n 52 dX17_holds_51 rfl rfl ?_
  refine X_getR (t := 14) (k := 0) 55 dX17_holds_52 rfl rfl (by decide) (by decide) (Or.inl rfl) q1834 rfl t ha ?_
  refine X_aload_n 56 dX17_holds_55 rfl rfl ?_
  refine X_aload_n 57 dX17_holds_56 rfl rfl ?_
  refine X_U2z (owner := "ShadowSpell$Aspect") 60 dX17_holds_57 rfl rfl mo_X16_is rfl q2398 q2400 q2402 q2399 (Or.inl rfl) (by decide) rfl (RV.c (i := 7) (by decide)) rfl (Nat.le_of_ble_eq_true rfl) rfl (Nat.le_of_ble_eq_true rfl) ?_
  refine is7_ok (g7 i hi) (g7 i' hi') ?_
  refine X_if_eq 67 63 dX17_holds_60 (by decide) rfl (fun c_60 => ?_) (fun c_60 => ?_)
  · refine X_iconst (v := 0) 68 dX17_holds_67 rfl (by decide) ?_
    refine X_zret dX17_holds_68 rfl rfl ?_
    first
      | (rw [b01_f (b01_0.mp c_60)] at k; exact k)
      | (rw [b01_t (Decidable.not_not.mp (fun q => c_60 (b01_0.mpr q)))] at k; exact k)
  · refine X_iconst (v := 1) 64 dX17_holds_63 rfl (by decide) ?_
    refine X_goto 68 dX17_holds_64 (by decide) ?_
    refine X_zret dX17_holds_68 rfl rfl ?_
    first
      | (rw [b01_f (b01_0.mp c_60)] at k; exact k)
      | (rw [b01_t (Decidable.not_not.mp (fun q => c_60 (b01_0.mpr q)))] at k; exact k)
set_option maxHeartbeats 400000 in
theorem s15_ok {κ : Kx} {d a b : Nat} {G : Gt} {Φ : Option Value → Gt → Prop} {Ψ : String → Nat → Gt → Prop} {sky l cap sb cs : Nat} {ps : Nat → Nat} {v : Sv} (h : SK κ G sky l ps cap sb cs v) {r sg n s t2 : Nat} {f : Nat → Int32} {x y : Int32} (t : gT G r = 15) (f0 : gR G 15 0 r = some sg) (hsg : ST G sg n f) (hn : 0 < n) (f1 : gR G 15 1 r = some s) (f2 : gR G 15 2 r = some t2) (hc : ∀ {pc q : Nat} {st : List Value} {r0 : Nat} {z : Int32}, (pc = 5 ∧ q = 8 ∧ st = [] ∧ r0 = s ∧ z = x) ∨ (pc = 13 ∧ q = 16 ∧ st = [.int x] ∧ r0 = t2 ∧ z = y) → X κ (d + 4) mX23_holds q [some (.ref r), some (.ref sky), none] (.int z :: st) G a b Φ Ψ → X κ (d + 4) mX23_holds pc [some (.ref r), some (.ref sky), none] (.ref sky :: .ref r0 :: st) G a b Φ Ψ) (k : Φ (some (.int (b01 (cmpB x y (f 0) (f (n - 1)) = true)))) G) : X κ (d + 4) mX23_holds 0 [some (.ref r), some (.ref sky), none] [] G a b Φ Ψ := by
  refine X_aload_n 1 dX23_holds_0 rfl rfl ?_
  refine X_getR (t := 15) (k := 1) 4 dX23_holds_1 rfl rfl (by decide) (by decide) (Or.inl rfl) q1944 rfl t f1 ?_
  refine X_aload_n 5 dX23_holds_4 rfl rfl ?_
  refine hc (Or.inl ⟨rfl, rfl, rfl, rfl, rfl⟩) ?_
  refine X_aload_n 9 dX23_holds_8 rfl rfl ?_
  refine X_getR (t := 15) (k := 2) 12 dX23_holds_9 rfl rfl (by decide) (by decide) (Or.inl rfl) q1945 rfl t f2 ?_
  refine X_aload_n 13 dX23_holds_12 rfl rfl ?_
  refine hc (Or.inr ⟨rfl, rfl, rfl, rfl, rfl⟩) ?_
  refine X_S2z 19 dX23_holds_16 rfl rfl mo_J19_compare rfl q2378 q1274 rfl (Nat.le_of_ble_eq_true rfl) rfl (Nat.le_of_ble_eq_true rfl) ?_
  refine icompare_ok ?_
  refine X_istore2 20 dX23_holds_19 rfl (by decide) rfl ?_
  rcases Int32.lt_or_le x y with c | c
  · rw [if_pos c]
    refine X_iload_n 21 dX23_holds_20 rfl rfl ?_
    refine X_if_ge 45 24 dX23_holds_21 (by decide) rfl (fun c => absurd c ((by decide))) (fun _ => ?_)
    refine X_aload_n 25 dX23_holds_24 rfl rfl ?_
    refine X_getR (t := 15) (k := 0) 28 dX23_holds_25 rfl rfl (by decide) (by decide) (Or.inl rfl) q1943 rfl t f0 ?_
    refine X_iconst (v := 0) 29 dX23_holds_28 rfl (by decide) ?_
    refine X_V1z 32 dX23_holds_29 rfl rfl mo_J5_charAt rfl q2379 q1476 q1477 rfl (RV.t (t := 27) hsg.1 (by decide) rfl) rfl (Nat.le_of_ble_eq_true rfl) rfl (Nat.le_of_ble_eq_true rfl) ?_
    refine scharAt_ok hsg 0 nI_0.symm hn ?_
    refine X_bipush (v := 60) 34 dX23_holds_32 rfl (by decide) ?_
    refine X_icmp_ne 41 37 dX23_holds_34 (by decide) rfl (fun c_34 => ?_) (fun c_34 => ?_)
    · refine X_iconst (v := 0) 42 dX23_holds_41 rfl (by decide) ?_
      refine X_goto 96 dX23_holds_42 (by decide) ?_
      refine X_zret dX23_holds_96 rfl rfl ?_
      rw [show cmpB x y (f 0) (f (n - 1)) = decide (ch (f 0) = 60) by unfold cmpB; rw [if_pos c]] at k
      first
        | (rw [b01_f (by simp only [decide_eq_true_eq]; assumption)] at k; exact k)
        | (rw [b01_t (by simp only [decide_eq_true_eq]; first | assumption | exact Decidable.not_not.mp (by assumption))] at k; exact k)
    · refine X_iconst (v := 1) 38 dX23_holds_37 rfl (by decide) ?_
      refine X_goto 96 dX23_holds_38 (by decide) ?_
      refine X_zret dX23_holds_96 rfl rfl ?_
      rw [show cmpB x y (f 0) (f (n - 1)) = decide (ch (f 0) = 60) by unfold cmpB; rw [if_pos c]] at k
      first
        | (rw [b01_f (by simp only [decide_eq_true_eq]; assumption)] at k; exact k)
        | (rw [b01_t (by simp only [decide_eq_true_eq]; first | assumption | exact Decidable.not_not.mp (by assumption))] at k; exact k)
  · rw [if_neg (Int32.not_lt.mpr c)]
    by_cases e : x = y
    · rw [if_pos e]
      refine X_iload_n 21 dX23_holds_20 rfl rfl ?_
      refine X_if_ge 45 24 dX23_holds_21 (by decide) rfl (fun _ => ?_) (fun c => absurd ((by decide)) c)
      refine X_iload_n 46 dX23_holds_45 rfl rfl ?_
      refine X_if_le 70 49 dX23_holds_46 (by decide) rfl (fun _ => ?_) (fun c => absurd ((by decide)) c)
      refine X_aload_n 71 dX23_holds_70 rfl rfl ?_
      refine X_getR (t := 15) (k := 0) 74 dX23_holds_71 rfl rfl (by decide) (by decide) (Or.inl rfl) q1943 rfl t f0 ?_
      refine X_aload_n 75 dX23_holds_74 rfl rfl ?_
      refine X_getR (t := 15) (k := 0) 78 dX23_holds_75 rfl rfl (by decide) (by decide) (Or.inl rfl) q1943 rfl t f0 ?_
      refine X_V0z 81 dX23_holds_78 rfl rfl mo_J5_length rfl q2380 q577 q578 rfl (RV.t (t := 27) hsg.1 (by decide) rfl) rfl (Nat.le_of_ble_eq_true rfl) rfl (Nat.le_of_ble_eq_true rfl) ?_
      refine slength_ok hsg ?_
      refine X_iconst (v := 1) 82 dX23_holds_81 rfl (by decide) ?_
      refine X_isub 83 dX23_holds_82 rfl ?_
      refine X_V1z 86 dX23_holds_83 rfl rfl mo_J5_charAt rfl q2379 q1476 q1477 rfl (RV.t (t := 27) hsg.1 (by decide) rfl) rfl (Nat.le_of_ble_eq_true rfl) rfl (Nat.le_of_ble_eq_true rfl) ?_
      refine scharAt_ok hsg (n - 1) (by rw [show n = (n - 1) + 1 by omega, nI_pred]; rfl) (by omega) ?_
      refine X_bipush (v := 61) 88 dX23_holds_86 rfl (by decide) ?_
      refine X_icmp_ne 95 91 dX23_holds_88 (by decide) rfl (fun c_88 => ?_) (fun c_88 => ?_)
      · refine X_iconst (v := 0) 96 dX23_holds_95 rfl (by decide) ?_
        refine X_zret dX23_holds_96 rfl rfl ?_
        rw [show cmpB x y (f 0) (f (n - 1)) = decide (ch (f (n - 1)) = 61) by unfold cmpB; rw [if_neg (Int32.not_lt.mpr c), if_pos e]] at k
        first
          | (rw [b01_f (by simp only [decide_eq_true_eq]; assumption)] at k; exact k)
          | (rw [b01_t (by simp only [decide_eq_true_eq]; first | assumption | exact Decidable.not_not.mp (by assumption))] at k; exact k)
      · refine X_iconst (v := 1) 92 dX23_holds_91 rfl (by decide) ?_
        refine X_goto 96 dX23_holds_92 (by decide) ?_
        refine X_zret dX23_holds_96 rfl rfl ?_
        rw [show cmpB x y (f 0) (f (n - 1)) = decide (ch (f (n - 1)) = 61) by unfold cmpB; rw [if_neg (Int32.not_lt.mpr c), if_pos e]] at k
        first
          | (rw [b01_f (by simp only [decide_eq_true_eq]; assumption)] at k; exact k)
          | (rw [b01_t (by simp only [decide_eq_true_eq]; first | assumption | exact Decidable.not_not.mp (by assumption))] at k; exact k)
    · rw [if_neg e]
      refine X_iload_n 21 dX23_holds_20 rfl rfl ?_
      refine X_if_ge 45 24 dX23_holds_21 (by decide) rfl (fun _ => ?_) (fun c => absurd ((by decide)) c)
      refine X_iload_n 46 dX23_holds_45 rfl rfl ?_
      refine X_if_le 70 49 dX23_holds_46 (by decide) rfl (fun c => absurd c ((by decide))) (fun _ => ?_)
      refine X_aload_n 50 dX23_holds_49 rfl rfl ?_
      refine X_getR (t := 15) (k := 0) 53 dX23_holds_50 rfl rfl (by decide) (by decide) (Or.inl rfl) q1943 rfl t f0 ?_
      refine X_iconst (v := 0) 54 dX23_holds_53 rfl (by decide) ?_
      refine X_V1z 57 dX23_holds_54 rfl rfl mo_J5_charAt rfl q2379 q1476 q1477 rfl (RV.t (t := 27) hsg.1 (by decide) rfl) rfl (Nat.le_of_ble_eq_true rfl) rfl (Nat.le_of_ble_eq_true rfl) ?_
      refine scharAt_ok hsg 0 nI_0.symm hn ?_
      refine X_bipush (v := 62) 59 dX23_holds_57 rfl (by decide) ?_
      refine X_icmp_ne 66 62 dX23_holds_59 (by decide) rfl (fun c_59 => ?_) (fun c_59 => ?_)
      · refine X_iconst (v := 0) 67 dX23_holds_66 rfl (by decide) ?_
        refine X_goto 96 dX23_holds_67 (by decide) ?_
        refine X_zret dX23_holds_96 rfl rfl ?_
        rw [show cmpB x y (f 0) (f (n - 1)) = decide (ch (f 0) = 62) by unfold cmpB; rw [if_neg (Int32.not_lt.mpr c), if_neg e]] at k
        first
          | (rw [b01_f (by simp only [decide_eq_true_eq]; assumption)] at k; exact k)
          | (rw [b01_t (by simp only [decide_eq_true_eq]; first | assumption | exact Decidable.not_not.mp (by assumption))] at k; exact k)
      · refine X_iconst (v := 1) 63 dX23_holds_62 rfl (by decide) ?_
        refine X_goto 96 dX23_holds_63 (by decide) ?_
        refine X_zret dX23_holds_96 rfl rfl ?_
        rw [show cmpB x y (f 0) (f (n - 1)) = decide (ch (f 0) = 62) by unfold cmpB; rw [if_neg (Int32.not_lt.mpr c), if_neg e]] at k
        first
          | (rw [b01_f (by simp only [decide_eq_true_eq]; assumption)] at k; exact k)
          | (rw [b01_t (by simp only [decide_eq_true_eq]; first | assumption | exact Decidable.not_not.mp (by assumption))] at k; exact k)
set_option maxHeartbeats 400000 in
theorem s12_ok {κ : Kx} {d a b : Nat} {G : Gt} {Φ : Option Value → Gt → Prop} {Ψ : String → Nat → Gt → Prop} {r sky s : Nat} {e : Bool} (t : gT G r = 12) (f1 : gR G 12 0 r = some s) (hc : X κ d mX14_holds 10 [some (.ref r), some (.ref sky)] [.int (b01 (e = true))] G a b Φ Ψ → X κ d mX14_holds 5 [some (.ref r), some (.ref sky)] [.ref sky, .ref s] G a b Φ Ψ) (k : Φ (some (.int (b01 ((!e) = true)))) G) : X κ d mX14_holds 0 [some (.ref r), some (.ref sky)] [] G a b Φ Ψ := by
  refine X_aload_n 1 dX14_holds_0 rfl rfl ?_
  refine X_getR (t := 12) (k := 0) 4 dX14_holds_1 rfl rfl (by decide) (by decide) (Or.inl rfl) q1765 rfl t f1 ?_
  refine X_aload_n 5 dX14_holds_4 rfl rfl ?_
  refine hc ?_
  refine X_if_ne 17 13 dX14_holds_10 (by decide) rfl (fun c_10 => ?_) (fun c_10 => ?_)
  · refine X_iconst (v := 0) 18 dX14_holds_17 rfl (by decide) ?_
    refine X_zret dX14_holds_18 rfl rfl ?_
    cases e
    · first | exact k | exact absurd (b01_f (by decide)) c_10
    · first | exact k | exact absurd c_10 (by rw [b01_t rfl]; decide)
  · refine X_iconst (v := 1) 14 dX14_holds_13 rfl (by decide) ?_
    refine X_goto 18 dX14_holds_14 (by decide) ?_
    refine X_zret dX14_holds_18 rfl rfl ?_
    cases e
    · first | exact k | exact absurd (b01_f (by decide)) c_10
    · first | exact k | exact absurd c_10 (by rw [b01_t rfl]; decide)
theorem all_s {p : Nat → Bool} {i n : Nat} (h : i + 1 ≤ n) : (List.range n).all p = true → p i = true := fun q => List.all_eq_true.mp q i (List.mem_range.mpr h)
theorem any_s {p : Nat → Bool} {i n : Nat} (h : i + 1 ≤ n) (q : p i = true) : (List.range n).any p = true := List.any_eq_true.mpr ⟨i, List.mem_range.mpr h, q⟩
set_option maxHeartbeats 400000 in
theorem s11_ok {κ : Kx} {d a b : Nat} {G : Gt} {Φ : Option Value → Gt → Prop} {Ψ : String → Nat → Gt → Prop} {r sky l cnt : Nat} {ts : Nat → Nat} {all : Bool} {es : Nat → Bool} (t : gT G r = 11) (f0 : gI G 11 0 r = b01 (all = true)) (f1 : gR G 11 1 r = some l) (hl : AW G l cnt ts) (hk : ∀ i, i < cnt → gT G (ts i) = 11 ∨ gT G (ts i) = 12 ∨ gT G (ts i) = 13 ∨ gT G (ts i) = 14 ∨ gT G (ts i) = 15) (hc : ∀ (i : Nat) (x : Int32), i < cnt → X κ (d + 3) mX13_holds 30 [some (.ref r), some (.ref sky), some (.int x)] [.int (b01 (es i = true))] G a b Φ Ψ → X κ (d + 3) mX13_holds 25 [some (.ref r), some (.ref sky), some (.int x)] [.ref sky, .ref (ts i)] G a b Φ Ψ) (k : Φ (some (.int (b01 ((if all then (List.range cnt).all es else (List.range cnt).any es) = true)))) G) : X κ (d + 3) mX13_holds 0 [some (.ref r), some (.ref sky), none] [] G a b Φ Ψ := by
  refine X_iconst (v := 0) 1 dX13_holds_0 rfl (by decide) ?_
  refine X_istore2 2 dX13_holds_1 rfl (by decide) rfl ?_
  have key : ∀ rem : Nat, ∀ i, i + rem = cnt → (∀ j, j < i → es j = all) → X κ (d + 3) mX13_holds 2 [some (.ref r), some (.ref sky), some (.int (nI i))] [] G a b Φ Ψ := by
    intro rem
    induction rem with
    | zero =>
      intro i hi hq
      refine X_iload_n 3 dX13_holds_2 rfl rfl ?_
      refine X_aload_n 4 dX13_holds_3 rfl rfl ?_
      refine X_getR (t := 11) (k := 1) 7 dX13_holds_4 rfl rfl (by decide) (by decide) (Or.inl rfl) q1739 rfl t f1 ?_
      refine X_V0z 10 dX13_holds_7 rfl rfl mo_J2_size rfl q2423 q310 q311 rfl (RV.t (t := 23) hl.1 (by decide) rfl) rfl (Nat.le_of_ble_eq_true rfl) rfl (Nat.le_of_ble_eq_true rfl) ?_
      refine aw_size_ok hl ?_
      refine X_icmp_ge 56 13 dX13_holds_10 (by decide) rfl (fun _ => ?_) (fun c => absurd ((by rw [show i = cnt by omega]; exact nI_le (Nat.le_refl _) (by have := hl.2.2.1; omega))) c)
      refine X_aload_n 57 dX13_holds_56 rfl rfl ?_
      refine X_getI (t := 11) (k := 0) 60 dX13_holds_57 rfl rfl (by decide) (by decide) (Or.inl rfl) q1738 rfl t ?_
      rw [f0]
      refine X_zret dX13_holds_60 rfl (by cases all <;> rfl) ?_
      have e9 : (if all then (List.range cnt).all es else (List.range cnt).any es) = all := by
        cases all
        · simp only [Bool.false_eq_true, if_false]
          rw [List.any_eq_false]
          intro j hj
          rw [hq j (by have := List.mem_range.mp hj; omega)]; decide
        · simp only [if_true]
          rw [List.all_eq_true]
          intro j hj
          exact hq j (by have := List.mem_range.mp hj; omega)
      rw [e9] at k
      exact k
    | succ rem ih =>
      intro i hi hq
      refine X_iload_n 3 dX13_holds_2 rfl rfl ?_
      refine X_aload_n 4 dX13_holds_3 rfl rfl ?_
      refine X_getR (t := 11) (k := 1) 7 dX13_holds_4 rfl rfl (by decide) (by decide) (Or.inl rfl) q1739 rfl t f1 ?_
      refine X_V0z 10 dX13_holds_7 rfl rfl mo_J2_size rfl q2423 q310 q311 rfl (RV.t (t := 23) hl.1 (by decide) rfl) rfl (Nat.le_of_ble_eq_true rfl) rfl (Nat.le_of_ble_eq_true rfl) ?_
      refine aw_size_ok hl ?_
      refine X_icmp_ge 56 13 dX13_holds_10 (by decide) rfl (fun c => absurd c (nI_ge (by omega) (by have := hl.2.2.1; omega))) (fun _ => ?_)
      refine X_aload_n 14 dX13_holds_13 rfl rfl ?_
      refine X_getR (t := 11) (k := 1) 17 dX13_holds_14 rfl rfl (by decide) (by decide) (Or.inl rfl) q1739 rfl t f1 ?_
      refine X_iload_n 18 dX13_holds_17 rfl rfl ?_
      refine X_V1z 21 dX13_holds_18 rfl rfl mo_J2_get rfl q2424 q891 q3185 rfl (RV.t (t := 23) hl.1 (by decide) rfl) rfl (Nat.le_of_ble_eq_true rfl) rfl (Nat.le_of_ble_eq_true rfl) ?_
      refine aw_get_ok hl i rfl (by omega) ?_
      have tail : X κ (d + 3) mX13_holds 25 [some (.ref r), some (.ref sky), some (.int (nI i))] [.ref sky, .ref (ts i)] G a b Φ Ψ := by
        refine hc i (nI i) (by omega) ?_
        refine X_aload_n 31 dX13_holds_30 rfl rfl ?_
        refine X_getI (t := 11) (k := 0) 34 dX13_holds_31 rfl rfl (by decide) (by decide) (Or.inl rfl) q1738 rfl t ?_
        rw [f0]
        refine X_icmp_eq 50 37 dX13_holds_34 (by decide) rfl (fun c_34 => ?_) (fun c_34 => ?_)
        · refine X_iinc2 (v := nI (i + 1)) 53 dX13_holds_50 rfl (nI_1 i) (by decide) rfl ?_
          refine X_goto 2 dX13_holds_53 (by decide) ?_
          have e8 : es i = all := by
            cases ha : all <;> cases hs : es i <;> simp_all [b01]
          exact ih (i + 1) (by omega) (fun j hj => by
            rcases Nat.lt_succ_iff_lt_or_eq.mp hj with q | q
            · exact hq j q
            · rw [q]; exact e8)
        · refine X_aload_n 38 dX13_holds_37 rfl rfl ?_
          refine X_getI (t := 11) (k := 0) 41 dX13_holds_38 rfl rfl (by decide) (by decide) (Or.inl rfl) q1738 rfl t ?_
          rw [f0]
          refine X_if_ne 48 44 dX13_holds_41 (by decide) rfl (fun c_41 => ?_) (fun c_41 => ?_)
          · refine X_iconst (v := 0) 49 dX13_holds_48 rfl (by decide) ?_
            refine X_zret dX13_holds_49 rfl rfl ?_
            have e8 : es i = !all := by
              cases ha : all <;> cases hs : es i <;> simp_all
            have e9 : (if all then (List.range cnt).all es else (List.range cnt).any es) = !all := by
              cases all
              · simp only [Bool.false_eq_true, if_false]
                exact any_s (by omega) e8
              · simp only [if_true]
                cases hz : (List.range cnt).all es
                · rfl
                · exact absurd (all_s (i := i) (by omega) hz) (by rw [e8]; decide)
            rw [e9] at k
            cases all
            · first | exact k | exact absurd (b01_f (by decide)) c_41
            · first | exact k | exact absurd c_41 (by rw [b01_t rfl]; decide)
          · refine X_iconst (v := 1) 45 dX13_holds_44 rfl (by decide) ?_
            refine X_goto 49 dX13_holds_45 (by decide) ?_
            refine X_zret dX13_holds_49 rfl rfl ?_
            have e8 : es i = !all := by
              cases ha : all <;> cases hs : es i <;> simp_all
            have e9 : (if all then (List.range cnt).all es else (List.range cnt).any es) = !all := by
              cases all
              · simp only [Bool.false_eq_true, if_false]
                exact any_s (by omega) e8
              · simp only [if_true]
                cases hz : (List.range cnt).all es
                · rfl
                · exact absurd (all_s (i := i) (by omega) hz) (by rw [e8]; decide)
            rw [e9] at k
            cases all
            · first | exact k | exact absurd (b01_f (by decide)) c_41
            · first | exact k | exact absurd c_41 (by rw [b01_t rfl]; decide)
      rcases hk i (by omega) with q | q | q | q | q
      · refine X_cast (t := 11) 24 dX13_holds_21 rfl q (by decide) rfl q2425 (Or.inr q2417) ?_
        refine X_aload_n 25 dX13_holds_24 rfl rfl ?_
        exact tail
      · refine X_cast (t := 12) 24 dX13_holds_21 rfl q (by decide) rfl q2425 (Or.inr q2381) ?_
        refine X_aload_n 25 dX13_holds_24 rfl rfl ?_
        exact tail
      · refine X_cast (t := 13) 24 dX13_holds_21 rfl q (by decide) rfl q2425 (Or.inr q2289) ?_
        refine X_aload_n 25 dX13_holds_24 rfl rfl ?_
        exact tail
      · refine X_cast (t := 14) 24 dX13_holds_21 rfl q (by decide) rfl q2425 (Or.inr q2389) ?_
        refine X_aload_n 25 dX13_holds_24 rfl rfl ?_
        exact tail
      · refine X_cast (t := 15) 24 dX13_holds_21 rfl q (by decide) rfl q2425 (Or.inr q2298) ?_
        refine X_aload_n 25 dX13_holds_24 rfl rfl ?_
        exact tail
  
  have r0 := key cnt 0 (by omega) (fun j hj => absurd hj (Nat.not_lt_zero _))
  rw [nI_0] at r0
  exact r0
theorem TE.kd {κ : Kx} {n m : Nat} {G : Gt} {r : Nat} {E : Sv → Bool} (h : TE κ n m G r E) : gT G r = 11 ∨ gT G r = 12 ∨ gT G r = 13 ∨ gT G r = 14 ∨ gT G r = 15 := by
  cases m with
  | zero => exact h.elim
  | succ m => rcases h.2 with ⟨t, -⟩ | ⟨t, -⟩ | ⟨t, -⟩ | ⟨t, -⟩ | ⟨t, -⟩ <;> simp [t]
theorem c11_call {κ : Kx} {d : Nat} {M : XM} {pc : Nat} {L : List (Option Value)} {st : List Value} {G : Gt} {a b : Nat} {Φ : Option Value → Gt → Prop} {Ψ : String → Nat → Gt → Prop} {index cnt r sky : Nat} (q : Nat) (hd : decode (mB M) pc = .ok (.invokeinterface index cnt, 5)) (hq : pc + 5 = q) (hN : mH M = none) (w1 : Cond.methodLink (mO M) index ⟨"ShadowSpell$Test", "holds", "(LShadowSpell$Sky;)Z"⟩ ∈ lw_all) (t : gT G r = 11) (hcs : (st.map fun v => v.category).sum ≤ 8) (k : X κ d mX13_holds 0 [some (.ref r), some (.ref sky), none] [] G 0 0 (fun v G' => X κ (d + 1) M q L (v.toList ++ st) G' a b Φ Ψ) Ψ) : X κ (d + 1) M pc L (.ref sky :: .ref r :: st) G a b Φ Ψ :=
  X_F1z (t := 11) (C := "ShadowSpell$Several") q hd hq hN mo_X13_holds rfl w1 q2418 q2420 q2288 q2287 q2421 q2419 q2417 (by decide) rfl rfl (by decide) t rfl hcs rfl (Nat.le_of_ble_eq_true rfl) k
theorem c12_call {κ : Kx} {d : Nat} {M : XM} {pc : Nat} {L : List (Option Value)} {st : List Value} {G : Gt} {a b : Nat} {Φ : Option Value → Gt → Prop} {Ψ : String → Nat → Gt → Prop} {index cnt r sky : Nat} (q : Nat) (hd : decode (mB M) pc = .ok (.invokeinterface index cnt, 5)) (hq : pc + 5 = q) (hN : mH M = none) (w1 : Cond.methodLink (mO M) index ⟨"ShadowSpell$Test", "holds", "(LShadowSpell$Sky;)Z"⟩ ∈ lw_all) (t : gT G r = 12) (hcs : (st.map fun v => v.category).sum ≤ 8) (k : X κ d mX14_holds 0 [some (.ref r), some (.ref sky)] [] G 0 0 (fun v G' => X κ (d + 1) M q L (v.toList ++ st) G' a b Φ Ψ) Ψ) : X κ (d + 1) M pc L (.ref sky :: .ref r :: st) G a b Φ Ψ :=
  X_F1z (t := 12) (C := "ShadowSpell$Denied") q hd hq hN mo_X14_holds rfl w1 q2382 q2384 q2288 q2287 q2385 q2383 q2381 (by decide) rfl rfl (by decide) t rfl hcs rfl (Nat.le_of_ble_eq_true rfl) k
theorem c13_call {κ : Kx} {d : Nat} {M : XM} {pc : Nat} {L : List (Option Value)} {st : List Value} {G : Gt} {a b : Nat} {Φ : Option Value → Gt → Prop} {Ψ : String → Nat → Gt → Prop} {index cnt r sky : Nat} (q : Nat) (hd : decode (mB M) pc = .ok (.invokeinterface index cnt, 5)) (hq : pc + 5 = q) (hN : mH M = none) (w1 : Cond.methodLink (mO M) index ⟨"ShadowSpell$Test", "holds", "(LShadowSpell$Sky;)Z"⟩ ∈ lw_all) (t : gT G r = 13) (hcs : (st.map fun v => v.category).sum ≤ 8) (k : X κ d mX15_holds 0 [some (.ref r), some (.ref sky)] [] G 0 0 (fun v G' => X κ (d + 1) M q L (v.toList ++ st) G' a b Φ Ψ) Ψ) : X κ (d + 1) M pc L (.ref sky :: .ref r :: st) G a b Φ Ψ :=
  X_F1z (t := 13) (C := "ShadowSpell$Back") q hd hq hN mo_X15_holds rfl w1 q2290 q2292 q2288 q2287 q2293 q2291 q2289 (by decide) rfl rfl (by decide) t rfl hcs rfl (Nat.le_of_ble_eq_true rfl) k
theorem c14_call {κ : Kx} {d : Nat} {M : XM} {pc : Nat} {L : List (Option Value)} {st : List Value} {G : Gt} {a b : Nat} {Φ : Option Value → Gt → Prop} {Ψ : String → Nat → Gt → Prop} {index cnt r sky : Nat} (q : Nat) (hd : decode (mB M) pc = .ok (.invokeinterface index cnt, 5)) (hq : pc + 5 = q) (hN : mH M = none) (w1 : Cond.methodLink (mO M) index ⟨"ShadowSpell$Test", "holds", "(LShadowSpell$Sky;)Z"⟩ ∈ lw_all) (t : gT G r = 14) (hcs : (st.map fun v => v.category).sum ≤ 8) (k : X κ d mX17_holds 0 [some (.ref r), some (.ref sky), none, none] [] G 0 0 (fun v G' => X κ (d + 1) M q L (v.toList ++ st) G' a b Φ Ψ) Ψ) : X κ (d + 1) M pc L (.ref sky :: .ref r :: st) G a b Φ Ψ :=
  X_F1z (t := 14) (C := "ShadowSpell$Seen") q hd hq hN mo_X17_holds rfl w1 q2390 q2392 q2288 q2287 q2393 q2391 q2389 (by decide) rfl rfl (by decide) t rfl hcs rfl (Nat.le_of_ble_eq_true rfl) k
theorem c15_call {κ : Kx} {d : Nat} {M : XM} {pc : Nat} {L : List (Option Value)} {st : List Value} {G : Gt} {a b : Nat} {Φ : Option Value → Gt → Prop} {Ψ : String → Nat → Gt → Prop} {index cnt r sky : Nat} (q : Nat) (hd : decode (mB M) pc = .ok (.invokeinterface index cnt, 5)) (hq : pc + 5 = q) (hN : mH M = none) (w1 : Cond.methodLink (mO M) index ⟨"ShadowSpell$Test", "holds", "(LShadowSpell$Sky;)Z"⟩ ∈ lw_all) (t : gT G r = 15) (hcs : (st.map fun v => v.category).sum ≤ 8) (k : X κ d mX23_holds 0 [some (.ref r), some (.ref sky), none] [] G 0 0 (fun v G' => X κ (d + 1) M q L (v.toList ++ st) G' a b Φ Ψ) Ψ) : X κ (d + 1) M pc L (.ref sky :: .ref r :: st) G a b Φ Ψ :=
  X_F1z (t := 15) (C := "ShadowSpell$Compared") q hd hq hN mo_X23_holds rfl w1 q2299 q2301 q2288 q2287 q2302 q2300 q2298 (by decide) rfl rfl (by decide) t rfl hcs rfl (Nat.le_of_ble_eq_true rfl) k
theorem cat3 {y : Int32} : (List.map (fun v : Value => v.category) [.int y]).sum ≤ 8 := by show 1 + 0 ≤ 8; omega
def TOf (m : Nat) : Prop := ∀ {κ : Kx} {d : Nat} {M : XM} {pc : Nat} {L : List (Option Value)} {st : List Value} {G : Gt} {a b : Nat} {Φ : Option Value → Gt → Prop} {Ψ : String → Nat → Gt → Prop} {sky l cap sb cs : Nat} {ps : Nat → Nat} {v : Sv} (_ : SK κ G sky l ps cap sb cs v) {index cnt r : Nat} {E : Sv → Bool} (q : Nat) (hd : decode (mB M) pc = .ok (.invokeinterface index cnt, 5)) (hq : pc + 5 = q) (hN : mH M = none) (w1 : Cond.methodLink (mO M) index ⟨"ShadowSpell$Test", "holds", "(LShadowSpell$Sky;)Z"⟩ ∈ lw_all) (_ : TE κ (vN v) m G r E) (_ : m + 10 ≤ d) (_ : (st.map fun v => v.category).sum ≤ 8) (_ : X κ (d + 1) M q L (.int (b01 (E v = true)) :: st) G a b Φ Ψ), X κ (d + 1) M pc L (.ref sky :: .ref r :: st) G a b Φ Ψ
theorem testOf_0 : TOf 0 := by
  intro κ d M pc L st G a b Φ Ψ sky l cap sb cs ps v h index cnt r E q hd hq hN w1 hS
  exact hS.elim
theorem ev15 {κ : Kx} {d a b : Nat} {G : Gt} {Φ : Option Value → Gt → Prop} {Ψ : String → Nat → Gt → Prop} {sky l cap sb cs : Nat} {ps : Nat → Nat} {v : Sv} (h : SK κ G sky l ps cap sb cs v) {m r sg n s t2 : Nat} {f : Nat → Int32} {E1 E2 : Sv → Int32} (t : gT G r = 15) (f0 : gR G 15 0 r = some sg) (hsg : ST G sg n f) (hn : 0 < n) (f1 : gR G 15 1 r = some s) (f2 : gR G 15 2 r = some t2) (u1 : SU κ (vN v) m G s E1) (u2 : SU κ (vN v) m G t2 E2) (hm : m + 6 ≤ d + 3) (k : Φ (some (.int (b01 (cmpB (E1 v) (E2 v) (f 0) (f (n - 1)) = true)))) G) : X κ (d + 4) mX23_holds 0 [some (.ref r), some (.ref sky), none] [] G a b Φ Ψ := by
  refine s15_ok h t f0 hsg hn f1 f2 (fun hh k9 => ?_) k
  rcases hh with ⟨rfl, rfl, rfl, rfl, rfl⟩ | ⟨rfl, rfl, rfl, rfl, rfl⟩
  · exact sumOf_ok m h 8 dX23_holds_5 rfl rfl q2304 u1 hm cat0 k9
  · exact sumOf_ok m h 16 dX23_holds_13 rfl rfl q2304 u2 hm cat3 k9
theorem ev12 {m : Nat} (ih : TOf m) {κ : Kx} {d a b : Nat} {G : Gt} {Φ : Option Value → Gt → Prop} {Ψ : String → Nat → Gt → Prop} {sky l cap sb cs : Nat} {ps : Nat → Nat} {v : Sv} (h : SK κ G sky l ps cap sb cs v) {r s : Nat} {E1 : Sv → Bool} (t : gT G r = 12) (f1 : gR G 12 0 r = some s) (f2 : TE κ (vN v) m G s E1) (hm : m + 10 ≤ d) (k : Φ (some (.int (b01 ((!(E1 v)) = true)))) G) : X κ (d + 1) mX14_holds 0 [some (.ref r), some (.ref sky)] [] G a b Φ Ψ :=
  s12_ok t f1 (fun k9 => ih h 10 dX14_holds_5 rfl rfl q2388 f2 hm cat0 k9) k
theorem ev11 {m : Nat} (ih : TOf m) {κ : Kx} {d a b : Nat} {G : Gt} {Φ : Option Value → Gt → Prop} {Ψ : String → Nat → Gt → Prop} {sky l cap sb cs : Nat} {ps : Nat → Nat} {v : Sv} (h : SK κ G sky l ps cap sb cs v) {r l2 cnt : Nat} {ts : Nat → Nat} {all : Bool} {Es : Nat → Sv → Bool} (t : gT G r = 11) (f0 : gI G 11 0 r = b01 (all = true)) (f1 : gR G 11 1 r = some l2) (hl : AW G l2 cnt ts) (f2 : ∀ i, i < cnt → TE κ (vN v) m G (ts i) (Es i)) (hm : m + 10 ≤ d + 2) (k : Φ (some (.int (b01 ((if all then (List.range cnt).all (fun i => Es i v) else (List.range cnt).any (fun i => Es i v)) = true)))) G) : X κ (d + 3) mX13_holds 0 [some (.ref r), some (.ref sky), none] [] G a b Φ Ψ :=
  s11_ok t f0 f1 hl (fun i hi => (f2 i hi).kd) (fun i x hi k9 => ih h 30 dX13_holds_25 rfl rfl q2427 (f2 i hi) hm cat0 k9) k
theorem testOf_s {m : Nat} (ih : TOf m) : TOf (m + 1) := by
  intro κ d M pc L st G a b Φ Ψ sky l cap sb cs ps v h index cnt r E q hd hq hN w1 hS hm hcs k
  obtain ⟨d, rfl⟩ : ∃ d', d = d' + 11 := ⟨d - 11, by omega⟩
  obtain ⟨ho, hS⟩ := hS
  rcases hS with ⟨t, i, h1, h2, e⟩ | ⟨t, j, i, i', h1, h2, h3, h4, h5, h6, e⟩ | ⟨t, sg, n, f, s, t2, E1, E2, h1, h2, h3, h4, h5, h6, h7, e⟩ | ⟨t, s, E1, h1, h2, h3, e⟩ | ⟨t, all, l2, cnt2, ts, Es, h1, h2, h3, h4, e⟩
  · subst e
    exact c13_call q hd hq hN w1 t hcs (s13_ok h t i h1 h2 k)
  · subst e
    refine c14_call q hd hq hN w1 t hcs ?_
    rcases h1 with e | e <;> subst e
    · have e9 : ((decide (6 = 7) || decide (vP v i 1 ≤ vP v i' 1)) && mt (vP v i 5) (vP v i' 5) (vP v i 6) (vP v i' 6) (tn 6)) = (decide (vP v i 1 ≤ vP v i' 1) && mt (vP v i 5) (vP v i' 5) (vP v i 6) (vP v i' 6) (tn 6)) := by simp
      simp only [e9] at k
      exact s14_6_ok h t i i' h5 h6 h2 h3 h4 k
    · have e9 : ((decide (7 = 7) || decide (vP v i 1 ≤ vP v i' 1)) && mt (vP v i 5) (vP v i' 5) (vP v i 6) (vP v i' 6) (tn 7)) = mt (vP v i 5) (vP v i' 5) (vP v i 6) (vP v i' 6) (tn 7) := by simp
      simp only [e9] at k
      exact s14_7_ok h t i i' h5 h6 h2 h3 h4 k
  · subst e
    exact c15_call q hd hq hN w1 t hcs (ev15 h t h1 h2 h3 h4 h5 h6 h7 (by omega) k)
  · subst e
    exact c12_call q hd hq hN w1 t hcs (ev12 ih h t h1 h3 (by omega) k)
  · subst e
    exact c11_call q hd hq hN w1 t hcs (ev11 ih h t h1 h2 h3.w h4 (by omega) k)
theorem testOf_ok (m : Nat) : TOf m := by
  induction m with
  | zero => exact testOf_0
  | succ m ih => exact testOf_s ih

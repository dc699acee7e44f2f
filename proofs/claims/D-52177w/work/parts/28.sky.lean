set_option maxRecDepth 100000
/-! ===== the sky ===== -/
/-- the alphabet r has n letters f -/
def AB (G : Gt) (r n : Nat) (f : Nat → Int32) : Prop := gT G r = 5 ∧ ow G r = none ∧ 0 < n ∧ ∃ s, gR G 5 0 r = some s ∧ ST G s n f
theorem AB.md {S : List Nat} {G G' : Gt} {r n : Nat} {f : Nat → Int32} (h : AB G r n f) (m : Md S G G') : AB G' r n f := by
  obtain ⟨h1, h2, h3, s, h4, h5⟩ := h
  have a1 := m.a (a := r) (by rw [h1]; decide) (fun _ _ => by rw [h2]; exact fun q => by cases q)
  exact ⟨a1.t.trans h1, a1.o.trans h2, h3, s, (a1.r 5 0).trans h4, h5.md m⟩
set_option maxHeartbeats 400000 in
theorem letter_ok {κ : Kx} {d a b : Nat} {G : Gt} {Φ : Option Value → Gt → Prop} {Ψ : String → Nat → Gt → Prop} {r n : Nat} {f : Nat → Int32} {x : Int32} (h : AB G r n f) (i : Nat) (hi : i < n) (hx : fmod x (nI n) = nI i) (k : Φ (some (.int (ch (f i)))) G) : X κ (d + 4) mX12_letter 0 [some (.ref r), some (.int x)] [] G a b Φ Ψ := by
  obtain ⟨h1, h2, h3, s, h4, h5⟩ := h
  refine X_aload_n 1 dX12_letter_0 rfl rfl ?_
  refine X_getR (t := 5) (k := 0) 4 dX12_letter_1 rfl rfl (by decide) (by decide) (Or.inl rfl) q1716 rfl h1 h4 ?_
  refine X_iload_n 5 dX12_letter_4 rfl rfl ?_
  refine X_aload_n 6 dX12_letter_5 rfl rfl ?_
  refine X_getR (t := 5) (k := 0) 9 dX12_letter_6 rfl rfl (by decide) (by decide) (Or.inl rfl) q1716 rfl h1 h4 ?_
  refine X_V0z 12 dX12_letter_9 rfl rfl mo_J5_length rfl q2433 q577 q578 rfl (RV.t (t := 27) h5.1 (by decide) rfl) rfl (Nat.le_of_ble_eq_true rfl) rfl (Nat.le_of_ble_eq_true rfl) ?_
  refine slength_ok h5 ?_
  refine X_S2z 15 dX12_letter_12 rfl rfl mo_J14_floorMod rfl q2434 q2279 rfl (Nat.le_of_ble_eq_true rfl) rfl (Nat.le_of_ble_eq_true rfl) ?_
  refine floorMod_ok (nI_ne0 h3 (by have := h5.2.2.2.1; omega)) ?_
  refine X_V1z 18 dX12_letter_15 rfl rfl mo_J5_charAt rfl q2435 q1476 q1477 rfl (RV.t (t := 27) h5.1 (by decide) rfl) rfl (Nat.le_of_ble_eq_true rfl) rfl (Nat.le_of_ble_eq_true rfl) ?_
  refine scharAt_ok h5 i hx hi ?_
  refine X_zret dX12_letter_18 rfl (by show narrow .char (.int (ch _)) = _; exact congrArg Value.int (ch_i2c _)) ?_
  exact k
/-- what a loop adds up: f i, f (i + 1), .. of k places onto acc -/
def fo (f : Nat → Int32) : Nat → Nat → Int32 → Int32
  | _, 0, acc => acc
  | i, k + 1, acc => fo f (i + 1) k (acc + f i)
def fo2 (g : Nat → Int32 → Int32) : Nat → Nat → Int32 → Int32
  | _, 0, acc => acc
  | i, k + 1, acc => fo2 g (i + 1) k (g i acc)
/-- the laps of all planets -/
def lapsS (v : Sv) : Int32 := fo (fun i => vP v i 7) 0 (vN v) 0
def trI (v : Sv) (i : Nat) (acc : Int32) : Int32 := fo (fun j => b01 (mt (vP v i 5) (vP v j 5) (vP v i 6) (vP v j 6) (tn 6) = true)) (i + 1) (vN v - (i + 1)) acc
/-- the transits -/
def trS (v : Sv) : Int32 := fo2 (trI v) 0 (vN v) 0
set_option maxHeartbeats 400000 in
theorem laps_ok {κ : Kx} {d a b : Nat} {G : Gt} {Φ : Option Value → Gt → Prop} {Ψ : String → Nat → Gt → Prop} {sky l cap sb cs : Nat} {ps : Nat → Nat} {v : Sv} (h : SK κ G sky l ps cap sb cs v) (k : Φ (some (.int (lapsS v))) G) : X κ (d + 3) mX3_laps 0 [some (.ref sky), none, none] [] G a b Φ Ψ := by
  obtain ⟨g1, g2, g3, g4, g5, g6, g7, g8, g9, g10, g11⟩ := id h
  have hnb : vN v ≤ 100000 := by have := g6.2.2.2.2.1; have := g6.2.2.2.2.2.1; omega
  refine X_iconst (v := 0) 1 dX3_laps_0 rfl (by decide) ?_
  refine X_istore1 2 dX3_laps_1 rfl (by decide) rfl ?_
  refine X_iconst (v := 0) 3 dX3_laps_2 rfl (by decide) ?_
  refine X_istore2 4 dX3_laps_3 rfl (by decide) rfl ?_
  have key : ∀ rem : Nat, ∀ i acc, i + rem = vN v → Φ (some (.int (fo (fun i => vP v i 7) i rem acc))) G → X κ (d + 3) mX3_laps 4 [some (.ref sky), some (.int acc), some (.int (nI i))] [] G a b Φ Ψ := by
    intro rem
    induction rem with
    | zero =>
      intro i acc hi k
      refine X_iload_n 5 dX3_laps_4 rfl rfl ?_
      refine X_aload_n 6 dX3_laps_5 rfl rfl ?_
      refine X_getR (t := 3) (k := 0) 9 dX3_laps_6 rfl rfl (by decide) (by decide) (Or.inl rfl) q228 rfl g1 g5 ?_
      refine X_V0z 12 dX3_laps_9 rfl rfl mo_J2_size rfl q2265 q310 q311 rfl (RV.t (t := 23) g6.1 (by decide) rfl) rfl (Nat.le_of_ble_eq_true rfl) rfl (Nat.le_of_ble_eq_true rfl) ?_
      refine al_size_ok g6 ?_
      refine X_icmp_ge 38 15 dX3_laps_12 (by decide) rfl (fun _ => ?_) (fun c => absurd ((by rw [show i = vN v by omega]; exact nI_le (Nat.le_refl _) (by omega))) c)
      refine X_iload_n 39 dX3_laps_38 rfl rfl ?_
      refine X_iret dX3_laps_39 rfl ?_
      exact k
    | succ rem ih =>
      intro i acc hi k
      refine X_iload_n 5 dX3_laps_4 rfl rfl ?_
      refine X_aload_n 6 dX3_laps_5 rfl rfl ?_
      refine X_getR (t := 3) (k := 0) 9 dX3_laps_6 rfl rfl (by decide) (by decide) (Or.inl rfl) q228 rfl g1 g5 ?_
      refine X_V0z 12 dX3_laps_9 rfl rfl mo_J2_size rfl q2265 q310 q311 rfl (RV.t (t := 23) g6.1 (by decide) rfl) rfl (Nat.le_of_ble_eq_true rfl) rfl (Nat.le_of_ble_eq_true rfl) ?_
      refine al_size_ok g6 ?_
      refine X_icmp_ge 38 15 dX3_laps_12 (by decide) rfl (fun c => absurd c (nI_ge (by omega) (by omega))) (fun _ => ?_)
      refine X_iload_n 16 dX3_laps_15 rfl rfl ?_
      refine X_aload_n 17 dX3_laps_16 rfl rfl ?_
      refine X_getR (t := 3) (k := 0) 20 dX3_laps_17 rfl rfl (by decide) (by decide) (Or.inl rfl) q228 rfl g1 g5 ?_
      refine X_iload_n 21 dX3_laps_20 rfl rfl ?_
      refine X_V1z 24 dX3_laps_21 rfl rfl mo_J2_get rfl q2266 q891 q3185 rfl (RV.t (t := 23) g6.1 (by decide) rfl) rfl (Nat.le_of_ble_eq_true rfl) rfl (Nat.le_of_ble_eq_true rfl) ?_
      refine al_get_ok g6 i rfl (by omega) ?_
      refine X_cast (t := 4) 27 dX3_laps_24 rfl (g7 i (by omega)).1 (by decide) rfl q2159 (Or.inl rfl) ?_
      refine X_gnI (t := 4) (k := 7) 30 dX3_laps_27 rfl rfl (by decide) (by decide) q1680 rfl (g7 i (by omega)).1 ?_
      rw [(g7 i (by omega)).2.2.2 7 (by omega) (by omega)]
      refine X_iadd 31 dX3_laps_30 rfl ?_
      refine X_istore1 32 dX3_laps_31 rfl (by decide) rfl ?_
      refine X_iinc2 (v := nI (i + 1)) 35 dX3_laps_32 rfl (nI_1 i) (by decide) rfl ?_
      refine X_goto 4 dX3_laps_35 (by decide) ?_
      exact ih (i + 1) _ (by omega) k
  have r0 := key (vN v) 0 0 (by omega) k
  rw [nI_0] at r0
  exact r0
set_option maxHeartbeats 400000 in
theorem transits_ok {κ : Kx} {d a b : Nat} {G : Gt} {Φ : Option Value → Gt → Prop} {Ψ : String → Nat → Gt → Prop} {sky l cap sb cs : Nat} {ps : Nat → Nat} {v : Sv} (h : SK κ G sky l ps cap sb cs v) (k : Φ (some (.int (trS v))) G) : X κ (d + 3) mX3_transits 0 [some (.ref sky), none, none, none] [] G a b Φ Ψ := by
  obtain ⟨g1, g2, g3, g4, g5, g6, g7, g8, g9, g10, g11⟩ := id h
  have hnb : vN v ≤ 100000 := by have := g6.2.2.2.2.1; have := g6.2.2.2.2.2.1; omega
  refine X_iconst (v := 0) 1 dX3_transits_0 rfl (by decide) ?_
  refine X_istore1 2 dX3_transits_1 rfl (by decide) rfl ?_
  refine X_iconst (v := 0) 3 dX3_transits_2 rfl (by decide) ?_
  refine X_istore2 4 dX3_transits_3 rfl (by decide) rfl ?_
  have key : ∀ rem9 : Nat, ∀ i acc (w3 : Option Int32), i + rem9 = vN v → Φ (some (.int (fo2 (trI v) i rem9 acc))) G → X κ (d + 3) mX3_transits 4 [some (.ref sky), some (.int acc), some (.int (nI i)), w3.map .int] [] G a b Φ Ψ := by
    intro rem9
    induction rem9 with
    | zero =>
      intro i acc w3 hi k
      refine X_iload_n 5 dX3_transits_4 rfl rfl ?_
      refine X_aload_n 6 dX3_transits_5 rfl rfl ?_
      refine X_getR (t := 3) (k := 0) 9 dX3_transits_6 rfl rfl (by decide) (by decide) (Or.inl rfl) q228 rfl g1 g5 ?_
      refine X_V0z 12 dX3_transits_9 rfl rfl mo_J2_size rfl q2265 q310 q311 rfl (RV.t (t := 23) g6.1 (by decide) rfl) rfl (Nat.le_of_ble_eq_true rfl) rfl (Nat.le_of_ble_eq_true rfl) ?_
      refine al_size_ok g6 ?_
      refine X_icmp_ge 81 15 dX3_transits_12 (by decide) rfl (fun _ => ?_) (fun c => absurd ((by rw [show i = vN v by omega]; exact nI_le (Nat.le_refl _) (by omega))) c)
      refine X_iload_n 82 dX3_transits_81 rfl rfl ?_
      refine X_iret dX3_transits_82 rfl ?_
      exact k
    | succ rem9 ih =>
      intro i acc w3 hi k
      refine X_iload_n 5 dX3_transits_4 rfl rfl ?_
      refine X_aload_n 6 dX3_transits_5 rfl rfl ?_
      refine X_getR (t := 3) (k := 0) 9 dX3_transits_6 rfl rfl (by decide) (by decide) (Or.inl rfl) q228 rfl g1 g5 ?_
      refine X_V0z 12 dX3_transits_9 rfl rfl mo_J2_size rfl q2265 q310 q311 rfl (RV.t (t := 23) g6.1 (by decide) rfl) rfl (Nat.le_of_ble_eq_true rfl) rfl (Nat.le_of_ble_eq_true rfl) ?_
      refine al_size_ok g6 ?_
      refine X_icmp_ge 81 15 dX3_transits_12 (by decide) rfl (fun c => absurd c (nI_ge (by omega) (by omega))) (fun _ => ?_)
      refine X_iload_n 16 dX3_transits_15 rfl rfl ?_
      refine X_iconst (v := 1) 17 dX3_transits_16 rfl (by decide) ?_
      refine X_iadd 18 dX3_transits_17 rfl ?_
      rw [nI_1]
      refine X_istore3 19 dX3_transits_18 rfl (by decide) rfl ?_
      rw [fo2, show rem9 = vN v - (i + 1) by omega] at k
      have inner : ∀ rem : Nat, ∀ j acc, j + rem = vN v → i < j → Φ (some (.int (fo2 (trI v) (i + 1) (vN v - (i + 1)) (fo (fun j => b01 (mt (vP v i 5) (vP v j 5) (vP v i 6) (vP v j 6) (tn 6) = true)) j rem acc)))) G → X κ (d + 3) mX3_transits 19 [some (.ref sky), some (.int acc), some (.int (nI i)), some (.int (nI j))] [] G a b Φ Ψ := by
        intro rem
        induction rem with
        | zero =>
          intro j acc hj hij k
          refine X_iload_n 20 dX3_transits_19 rfl rfl ?_
          refine X_aload_n 21 dX3_transits_20 rfl rfl ?_
          refine X_getR (t := 3) (k := 0) 24 dX3_transits_21 rfl rfl (by decide) (by decide) (Or.inl rfl) q228 rfl g1 g5 ?_
          refine X_V0z 27 dX3_transits_24 rfl rfl mo_J2_size rfl q2265 q310 q311 rfl (RV.t (t := 23) g6.1 (by decide) rfl) rfl (Nat.le_of_ble_eq_true rfl) rfl (Nat.le_of_ble_eq_true rfl) ?_
          refine al_size_ok g6 ?_
          refine X_icmp_ge 75 30 dX3_transits_27 (by decide) rfl (fun _ => ?_) (fun c => absurd ((by rw [show j = vN v by omega]; exact nI_le (Nat.le_refl _) (by omega))) c)
          refine X_iinc2 (v := nI (i + 1)) 78 dX3_transits_75 rfl (nI_1 i) (by decide) rfl ?_
          refine X_goto 4 dX3_transits_78 (by decide) ?_
          exact ih (i + 1) acc (some (nI j)) (by omega) (by rw [show rem9 = vN v - (i + 1) by omega]; exact k)
        | succ rem ihj =>
          intro j acc hj hij k
          refine X_iload_n 20 dX3_transits_19 rfl rfl ?_
          refine X_aload_n 21 dX3_transits_20 rfl rfl ?_
          refine X_getR (t := 3) (k := 0) 24 dX3_transits_21 rfl rfl (by decide) (by decide) (Or.inl rfl) q228 rfl g1 g5 ?_
          refine X_V0z 27 dX3_transits_24 rfl rfl mo_J2_size rfl q2265 q310 q311 rfl (RV.t (t := 23) g6.1 (by decide) rfl) rfl (Nat.le_of_ble_eq_true rfl) rfl (Nat.le_of_ble_eq_true rfl) ?_
          refine al_size_ok g6 ?_
          refine X_icmp_ge 75 30 dX3_transits_27 (by decide) rfl (fun c => absurd c (nI_ge (by omega) (by omega))) (fun _ => ?_)
          refine X_iload_n 31 dX3_transits_30 rfl rfl ?_
          refine X_getsR 34 6 dX3_transits_31 rfl rfl q2485 ?_
          refine X_aload_n 35 dX3_transits_34 rfl rfl ?_
          refine X_getR (t := 3) (k := 0) 38 dX3_transits_35 rfl rfl (by decide) (by decide) (Or.inl rfl) q228 rfl g1 g5 ?_
          refine X_iload_n 39 dX3_transits_38 rfl rfl ?_
          refine X_V1z 42 dX3_transits_39 rfl rfl mo_J2_get rfl q2266 q891 q3185 rfl (RV.t (t := 23) g6.1 (by decide) rfl) rfl (Nat.le_of_ble_eq_true rfl) rfl (Nat.le_of_ble_eq_true rfl) ?_
          refine al_get_ok g6 i rfl (by omega) ?_
          refine X_cast (t := 4) 45 dX3_transits_42 rfl (g7 i (by omega)).1 (by decide) rfl q2159 (Or.inl rfl) ?_
          refine X_aload_n 46 dX3_transits_45 rfl rfl ?_
          refine X_getR (t := 3) (k := 0) 49 dX3_transits_46 rfl rfl (by decide) (by decide) (Or.inl rfl) q228 rfl g1 g5 ?_
          refine X_iload_n 50 dX3_transits_49 rfl rfl ?_
          refine X_V1z 53 dX3_transits_50 rfl rfl mo_J2_get rfl q2266 q891 q3185 rfl (RV.t (t := 23) g6.1 (by decide) rfl) rfl (Nat.le_of_ble_eq_true rfl) rfl (Nat.le_of_ble_eq_true rfl) ?_
          refine al_get_ok g6 j rfl (by omega) ?_
          refine X_cast (t := 4) 56 dX3_transits_53 rfl (g7 j (by omega)).1 (by decide) rfl q2159 (Or.inl rfl) ?_
          refine X_U2z (owner := "ShadowSpell$Aspect") 59 dX3_transits_56 rfl rfl mo_X16_is rfl q2486 q2400 q2401 q2399 (Or.inl rfl) (by decide) rfl (RV.c (i := 6) (by decide)) rfl (Nat.le_of_ble_eq_true rfl) rfl (Nat.le_of_ble_eq_true rfl) ?_
          refine is6_ok (g7 i (by omega)) (g7 j (by omega)) ?_
          refine X_if_eq 66 62 dX3_transits_59 (by decide) rfl (fun c_59 => ?_) (fun c_59 => ?_)
          · refine X_iconst (v := 0) 67 dX3_transits_66 rfl (by decide) ?_
            refine X_iadd 68 dX3_transits_67 rfl ?_
            refine X_istore1 69 dX3_transits_68 rfl (by decide) rfl ?_
            refine X_iinc3 (v := nI (j + 1)) 72 dX3_transits_69 rfl (nI_1 j) (by decide) rfl ?_
            refine X_goto 19 dX3_transits_72 (by decide) ?_
            first
              | (rw [fo, b01_f (b01_0.mp c_59)] at k; exact ihj (j + 1) _ (by omega) (by omega) k)
              | (rw [fo, b01_t (Decidable.not_not.mp (fun q => c_59 (b01_0.mpr q)))] at k; exact ihj (j + 1) _ (by omega) (by omega) k)
          · refine X_iconst (v := 1) 63 dX3_transits_62 rfl (by decide) ?_
            refine X_goto 67 dX3_transits_63 (by decide) ?_
            refine X_iadd 68 dX3_transits_67 rfl ?_
            refine X_istore1 69 dX3_transits_68 rfl (by decide) rfl ?_
            refine X_iinc3 (v := nI (j + 1)) 72 dX3_transits_69 rfl (nI_1 j) (by decide) rfl ?_
            refine X_goto 19 dX3_transits_72 (by decide) ?_
            first
              | (rw [fo, b01_f (b01_0.mp c_59)] at k; exact ihj (j + 1) _ (by omega) (by omega) k)
              | (rw [fo, b01_t (Decidable.not_not.mp (fun q => c_59 (b01_0.mpr q)))] at k; exact ihj (j + 1) _ (by omega) (by omega) k)
      exact inner (vN v - (i + 1)) (i + 1) acc (by omega) (by omega) k
  have r0 := key (vN v) 0 0 none (by omega) k
  rw [nI_0] at r0
  exact r0
/-- the tape holds n bytes f, each 0 .. 255 -/
def TP (κ : Kx) (G : Gt) (t n : Nat) (f : Nat → Int32) : Prop := gT G t = 2 ∧ kB κ ≤ t ∧ ow G t = some t ∧ gI G 2 1 t = nI n ∧ n ≤ 2000 ∧ ∃ w, gR G 2 0 t = some w ∧ gT G w = 101 ∧ gL G w = 2000 ∧ ow G w = some t ∧ kB κ ≤ w ∧ ∀ i, i < n → ch (eI G w i) = f i
theorem TP.md {κ : Kx} {S : List Nat} {G G' : Gt} {t n : Nat} {f : Nat → Int32} (h : TP κ G t n f) (m : Md S G G') (hl : t ∉ S) : TP κ G' t n f := by
  obtain ⟨h1, h2, h3, h4, h5, w, w1, w2, w3, w4, w5, w6⟩ := h
  have hs : ∀ x, ow G x = some t → ∀ y ∈ S, ow G x ≠ some y := fun x hx y hy e => hl (by rw [hx] at e; cases e; exact hy)
  have a1 := m.a (a := t) (by rw [h1]; decide) (hs t h3)
  have a2 := m.a (a := w) (by rw [w2]; decide) (hs w w4)
  exact ⟨a1.t.trans h1, h2, a1.o.trans h3, (a1.i (by decide)).trans h4, h5, w, (a1.r 2 0).trans w1, a2.t.trans w2, a2.l.trans w3, a2.o.trans w4, w5, fun i hi => by rw [a2.ei]; exact w6 i hi⟩
set_option maxHeartbeats 400000 in
theorem tape_at_ok {κ : Kx} {d a b : Nat} {G : Gt} {Φ : Option Value → Gt → Prop} {Ψ : String → Nat → Gt → Prop} {t n : Nat} {f : Nat → Int32} {x : Int32} (h : TP κ G t n f) (i : Nat) (hx : x = nI i) (hi : i < 2147483648) (k : Φ (some (.int (if i < n then f i else 0))) G) : X κ d mX2_at 0 [some (.ref t), some (.int x)] [] G a b Φ Ψ := by
  obtain ⟨h1, h2, h3, h4, h5, w, w1, w2, w3, w4, w5, w6⟩ := id h
  refine X_iload_n 1 dX2_at_0 rfl rfl ?_
  refine X_aload_n 2 dX2_at_1 rfl rfl ?_
  refine X_getI (t := 2) (k := 1) 5 dX2_at_2 rfl rfl (by decide) (by decide) (Or.inl rfl) q151 rfl h1 ?_
  rw [h4, hx]
  refine X_icmp_ge 21 8 dX2_at_5 (by decide) rfl (fun c_5 => ?_) (fun c_5 => ?_)
  · refine X_iconst (v := 0) 22 dX2_at_21 rfl (by decide) ?_
    refine X_iret dX2_at_22 rfl ?_
    first
      | (have hin : i < n := Nat.not_le.mp (fun q => c_5 (nI_le q (by omega)))
         rw [if_pos hin, ← w6 i hin] at k; exact k)
      | (rw [if_neg (fun q => absurd c_5 (nI_ge q (by omega)))] at k; exact k)
  · refine X_aload_n 9 dX2_at_8 rfl rfl ?_
    have hin : i < n := Nat.not_le.mp (fun q => c_5 (nI_le q (by omega)))
    refine X_getR (t := 2) (k := 0) 12 dX2_at_9 rfl rfl (by decide) (by decide) (Or.inl rfl) q150 rfl h1 w1 ?_
    refine X_iload_n 13 dX2_at_12 rfl rfl ?_
    refine X_baload (i) 14 dX2_at_13 rfl w2 rfl (by omega) ?_
    refine X_sipush (v := 255) 17 dX2_at_14 rfl (by decide) ?_
    refine X_iand 18 dX2_at_17 rfl ?_
    refine X_goto 22 dX2_at_18 (by decide) ?_
    refine X_iret dX2_at_22 rfl ?_
    first
      | (have hin : i < n := Nat.not_le.mp (fun q => c_5 (nI_le q (by omega)))
         rw [if_pos hin, ← w6 i hin] at k; exact k)
      | (rw [if_neg (fun q => absurd c_5 (nI_ge q (by omega)))] at k; exact k)
/-- whether the bytes of a tape stand at place p of the paper -/
def isA (v : Sv) (n : Nat) (f : Nat → Int32) (p : Nat) : Bool := (List.range n).all fun k => decide (ch (vF v (p + k)) = f k)
/-- the first place of the tape's bytes -/
def findS (v : Sv) (n : Nat) (f : Nat → Int32) : Int32 := if n = 0 then -1 else fiI (isA v n f) 0 (vB v + 1 - n)
set_option maxHeartbeats 400000 in
theorem isAt_ok {κ : Kx} {d a b : Nat} {G : Gt} {Φ : Option Value → Gt → Prop} {Ψ : String → Nat → Gt → Prop} {sky l cap sb cs : Nat} {ps : Nat → Nat} {v : Sv} (h : SK κ G sky l ps cap sb cs v) {t n : Nat} {f : Nat → Int32} (ht : TP κ G t n f) (p : Nat) (hp : p + n ≤ vB v) (k : Φ (some (.int (b01 (isA v n f p = true)))) G) : X κ (d + 4) mX3_isAt 0 [some (.ref sky), some (.ref t), some (.int (nI p)), none] [] G a b Φ Ψ := by
  obtain ⟨g1, g2, g3, g4, g5, g6, g7, g8, g9, g10, g11⟩ := id h
  have hn2 : n ≤ 2000 := ht.2.2.2.2.1
  have hb2 : vB v ≤ 100000 := by have := g10.2.2.2.2.2.2.1; have := g10.2.2.2.2.2.2.2.1; omega
  refine X_iconst (v := 0) 1 dX3_isAt_0 rfl (by decide) ?_
  refine X_istore3 2 dX3_isAt_1 rfl (by decide) rfl ?_
  have key : ∀ rem : Nat, ∀ i, i + rem = n → (∀ j, j < i → ch (vF v (p + j)) = f j) → X κ (d + 4) mX3_isAt 2 [some (.ref sky), some (.ref t), some (.int (nI p)), some (.int (nI i))] [] G a b Φ Ψ := by
    intro rem
    induction rem with
    | zero =>
      intro i hi hq
      refine X_iload_n 3 dX3_isAt_2 rfl rfl ?_
      refine X_aload_n 4 dX3_isAt_3 rfl rfl ?_
      refine X_gnI (t := 2) (k := 1) 7 dX3_isAt_4 rfl rfl (by decide) (by decide) q154 rfl ht.1 ?_
      rw [ht.2.2.2.1]
      refine X_icmp_ge 36 10 dX3_isAt_7 (by decide) rfl (fun _ => ?_) (fun c => absurd ((by rw [show i = n by omega]; exact nI_le (Nat.le_refl _) (by omega))) c)
      refine X_iconst (v := 1) 37 dX3_isAt_36 rfl (by decide) ?_
      refine X_zret dX3_isAt_37 rfl rfl ?_
      rw [b01_t (by unfold isA; rw [List.all_eq_true]; intro j hj; rw [hq j (by have := List.mem_range.mp hj; omega)]; simp)] at k
      exact k
    | succ rem ih =>
      intro i hi hq
      refine X_iload_n 3 dX3_isAt_2 rfl rfl ?_
      refine X_aload_n 4 dX3_isAt_3 rfl rfl ?_
      refine X_gnI (t := 2) (k := 1) 7 dX3_isAt_4 rfl rfl (by decide) (by decide) q154 rfl ht.1 ?_
      rw [ht.2.2.2.1]
      refine X_icmp_ge 36 10 dX3_isAt_7 (by decide) rfl (fun c => absurd c (nI_ge (by omega) (by omega))) (fun _ => ?_)
      refine X_aload_n 11 dX3_isAt_10 rfl rfl ?_
      refine X_getR (t := 3) (k := 3) 14 dX3_isAt_11 rfl rfl (by decide) (by decide) (Or.inl rfl) q241 rfl g1 g9 ?_
      refine X_iload_n 15 dX3_isAt_14 rfl rfl ?_
      refine X_iload_n 16 dX3_isAt_15 rfl rfl ?_
      refine X_iadd 17 dX3_isAt_16 rfl ?_
      rw [nI_add]
      refine X_V1z 20 dX3_isAt_17 rfl rfl mo_J4_charAt rfl q2094 q2095 q2096 rfl (RV.t (t := 28) g10.1 (by decide) rfl) rfl (Nat.le_of_ble_eq_true rfl) rfl (Nat.le_of_ble_eq_true rfl) ?_
      refine sb_charAt_ok g10 (p + i) rfl (by omega) ?_
      refine X_aload_n 21 dX3_isAt_20 rfl rfl ?_
      refine X_iload_n 22 dX3_isAt_21 rfl rfl ?_
      refine X_V1z 25 dX3_isAt_22 rfl rfl mo_X2_at rfl q2104 q299 q300 rfl (RV.t (t := 2) ht.1 (by decide) rfl) rfl (Nat.le_of_ble_eq_true rfl) rfl (Nat.le_of_ble_eq_true rfl) ?_
      refine tape_at_ok ht i rfl (by omega) ?_
      rw [if_pos (by omega)]
      refine X_icmp_eq 30 28 dX3_isAt_25 (by decide) rfl (fun c_25 => ?_) (fun c_25 => ?_)
      · refine X_iinc3 (v := nI (i + 1)) 33 dX3_isAt_30 rfl (nI_1 i) (by decide) rfl ?_
        refine X_goto 2 dX3_isAt_33 (by decide) ?_
        exact ih (i + 1) (by omega) (fun j hj => by
          rcases Nat.lt_succ_iff_lt_or_eq.mp hj with q | q
          · exact hq j q
          · rw [q]; first | exact c_25 | exact Decidable.not_not.mp c_25)
      · refine X_iconst (v := 0) 29 dX3_isAt_28 rfl (by decide) ?_
        refine X_zret dX3_isAt_29 rfl rfl ?_
        rw [b01_f (fun q => c_25 (by have := List.all_eq_true.mp q i (List.mem_range.mpr (by omega)); simpa using this))] at k
        exact k
  have r0 := key n 0 (by omega) (fun j hj => absurd hj (Nat.not_lt_zero _))
  rw [nI_0] at r0
  exact r0
set_option maxHeartbeats 400000 in
theorem find_ok {κ : Kx} {d a b : Nat} {G : Gt} {Φ : Option Value → Gt → Prop} {Ψ : String → Nat → Gt → Prop} {sky l cap sb cs : Nat} {ps : Nat → Nat} {v : Sv} (h : SK κ G sky l ps cap sb cs v) {t n : Nat} {f : Nat → Int32} (ht : TP κ G t n f) (k : Φ (some (.int (findS v n f))) G) : X κ (d + 5) mX3_find 0 [some (.ref sky), some (.ref t), none] [] G a b Φ Ψ := by
  obtain ⟨g1, g2, g3, g4, g5, g6, g7, g8, g9, g10, g11⟩ := id h
  have hn2 : n ≤ 2000 := ht.2.2.2.2.1
  have hb2 : vB v ≤ 100000 := by have := g10.2.2.2.2.2.2.1; have := g10.2.2.2.2.2.2.2.1; omega
  refine X_iconst (v := 0) 1 dX3_find_0 rfl (by decide) ?_
  refine X_istore2 2 dX3_find_1 rfl (by decide) rfl ?_
  by_cases hn0 : n = 0
  · rw [show findS v n f = -1 from if_pos hn0] at k
    refine X_aload_n 3 dX3_find_2 rfl rfl ?_
    refine X_gnI (t := 2) (k := 1) 6 dX3_find_3 rfl rfl (by decide) (by decide) q154 rfl ht.1 ?_
    rw [ht.2.2.2.1, hn0, nI_0]
    refine X_if_le 42 9 dX3_find_6 (by decide) rfl (fun _ => ?_) (fun c => absurd ((by decide)) c)
    refine X_iconst (v := -1) 43 dX3_find_42 rfl (by decide) ?_
    refine X_iret dX3_find_43 rfl ?_
    exact k
  · rw [show findS v n f = fiI (isA v n f) 0 (vB v + 1 - n) from if_neg hn0] at k
    have key : ∀ rem : Nat, ∀ p, p + rem = vB v + 1 - n ∨ (rem = 0 ∧ p = 0 ∧ vB v < n) → Φ (some (.int (fiI (isA v n f) p rem))) G → X κ (d + 5) mX3_find 2 [some (.ref sky), some (.ref t), some (.int (nI p))] [] G a b Φ Ψ := by
      intro rem
      induction rem with
      | zero =>
        intro p hi k
        refine X_aload_n 3 dX3_find_2 rfl rfl ?_
        refine X_gnI (t := 2) (k := 1) 6 dX3_find_3 rfl rfl (by decide) (by decide) q154 rfl ht.1 ?_
        rw [ht.2.2.2.1]
        refine X_if_le 42 9 dX3_find_6 (by decide) rfl (fun c => absurd c ((fun q => nI_nle (by omega) (by omega) q))) (fun _ => ?_)
        refine X_iload_n 10 dX3_find_9 rfl rfl ?_
        refine X_aload_n 11 dX3_find_10 rfl rfl ?_
        refine X_gnI (t := 2) (k := 1) 14 dX3_find_11 rfl rfl (by decide) (by decide) q154 rfl ht.1 ?_
        rw [ht.2.2.2.1]
        refine X_iadd 15 dX3_find_14 rfl ?_
        rw [nI_add]
        refine X_aload_n 16 dX3_find_15 rfl rfl ?_
        refine X_getR (t := 3) (k := 3) 19 dX3_find_16 rfl rfl (by decide) (by decide) (Or.inl rfl) q241 rfl g1 g9 ?_
        refine X_V0z 22 dX3_find_19 rfl rfl mo_J4_length rfl q2089 q467 q3186 rfl (RV.t (t := 28) g10.1 (by decide) rfl) rfl (Nat.le_of_ble_eq_true rfl) rfl (Nat.le_of_ble_eq_true rfl) ?_
        refine sb_length_ok g10 ?_
        refine X_icmp_gt 42 25 dX3_find_22 (by decide) rfl (fun _ => ?_) (fun c => absurd ((nI_lt (by omega) (by omega))) c)
        refine X_iconst (v := -1) 43 dX3_find_42 rfl (by decide) ?_
        refine X_iret dX3_find_43 rfl ?_
        exact k
      | succ rem ih =>
        intro p hi k
        refine X_aload_n 3 dX3_find_2 rfl rfl ?_
        refine X_gnI (t := 2) (k := 1) 6 dX3_find_3 rfl rfl (by decide) (by decide) q154 rfl ht.1 ?_
        rw [ht.2.2.2.1]
        refine X_if_le 42 9 dX3_find_6 (by decide) rfl (fun c => absurd c ((fun q => nI_nle (by omega) (by omega) q))) (fun _ => ?_)
        refine X_iload_n 10 dX3_find_9 rfl rfl ?_
        refine X_aload_n 11 dX3_find_10 rfl rfl ?_
        refine X_gnI (t := 2) (k := 1) 14 dX3_find_11 rfl rfl (by decide) (by decide) q154 rfl ht.1 ?_
        rw [ht.2.2.2.1]
        refine X_iadd 15 dX3_find_14 rfl ?_
        rw [nI_add]
        refine X_aload_n 16 dX3_find_15 rfl rfl ?_
        refine X_getR (t := 3) (k := 3) 19 dX3_find_16 rfl rfl (by decide) (by decide) (Or.inl rfl) q241 rfl g1 g9 ?_
        refine X_V0z 22 dX3_find_19 rfl rfl mo_J4_length rfl q2089 q467 q3186 rfl (RV.t (t := 28) g10.1 (by decide) rfl) rfl (Nat.le_of_ble_eq_true rfl) rfl (Nat.le_of_ble_eq_true rfl) ?_
        refine sb_length_ok g10 ?_
        refine X_icmp_gt 42 25 dX3_find_22 (by decide) rfl (fun c => absurd c ((nI_nlt (by omega) (by omega)))) (fun _ => ?_)
        refine X_aload_n 26 dX3_find_25 rfl rfl ?_
        refine X_aload_n 27 dX3_find_26 rfl rfl ?_
        refine X_iload_n 28 dX3_find_27 rfl rfl ?_
        refine X_V2z 31 dX3_find_28 rfl rfl mo_X3_isAt rfl q2090 q2092 qs28 rfl (RV.t (t := 3) g1 (by decide) rfl) rfl (Nat.le_of_ble_eq_true rfl) rfl (Nat.le_of_ble_eq_true rfl) ?_
        refine isAt_ok h ht p (by omega) ?_
        refine X_if_eq 36 34 dX3_find_31 (by decide) rfl (fun c_31 => ?_) (fun c_31 => ?_)
        · refine X_iinc2 (v := nI (p + 1)) 39 dX3_find_36 rfl (nI_1 p) (by decide) rfl ?_
          refine X_goto 2 dX3_find_39 (by decide) ?_
          rw [fiI_f (b01_0.mp c_31)] at k
          exact ih (p + 1) (by omega) k
        · refine X_iload_n 35 dX3_find_34 rfl rfl ?_
          refine X_iret dX3_find_35 rfl ?_
          rw [fiI_t (Decidable.not_not.mp (fun q => c_31 (b01_0.mpr q)))] at k
          exact k
    have r0 := key (vB v + 1 - n) 0 (by omega) k
    rw [nI_0] at r0
    exact r0
def isAsB (v v' : Sv) : Bool := (List.range (vN v)).all fun k => decide (vP v k 5 = vP v' k 5)
set_option maxHeartbeats 400000 in
theorem isAs_ok {κ : Kx} {d a b : Nat} {G : Gt} {Φ : Option Value → Gt → Prop} {Ψ : String → Nat → Gt → Prop} {sky l cap sb cs : Nat} {ps : Nat → Nat} {v : Sv} (h : SK κ G sky l ps cap sb cs v) {sky2 l2 cap2 sb2 cs2 : Nat} {ps2 : Nat → Nat} {v2 : Sv} (h' : SK κ G sky2 l2 ps2 cap2 sb2 cs2 v2) (hn : vN v2 = vN v) (k : Φ (some (.int (b01 (isAsB v v2 = true)))) G) : X κ (d + 3) mX3_isAs 0 [some (.ref sky), some (.ref sky2), none] [] G a b Φ Ψ := by
  obtain ⟨g1, g2, g3, g4, g5, g6, g7, g8, g9, g10, g11⟩ := id h
  obtain ⟨p1, p2, p3, p4, p5, p6, p7, p8, p9, p10, p11⟩ := id h'
  have hnb : vN v ≤ 100000 := by have := g6.2.2.2.2.1; have := g6.2.2.2.2.2.1; omega
  refine X_iconst (v := 0) 1 dX3_isAs_0 rfl (by decide) ?_
  refine X_istore2 2 dX3_isAs_1 rfl (by decide) rfl ?_
  have key : ∀ rem : Nat, ∀ i, i + rem = vN v → (∀ j, j < i → vP v j 5 = vP v2 j 5) → X κ (d + 3) mX3_isAs 2 [some (.ref sky), some (.ref sky2), some (.int (nI i))] [] G a b Φ Ψ := by
    intro rem
    induction rem with
    | zero =>
      intro i hi hq
      refine X_iload_n 3 dX3_isAs_2 rfl rfl ?_
      refine X_aload_n 4 dX3_isAs_3 rfl rfl ?_
      refine X_getR (t := 3) (k := 0) 7 dX3_isAs_4 rfl rfl (by decide) (by decide) (Or.inl rfl) q228 rfl g1 g5 ?_
      refine X_V0z 10 dX3_isAs_7 rfl rfl mo_J2_size rfl q2265 q310 q311 rfl (RV.t (t := 23) g6.1 (by decide) rfl) rfl (Nat.le_of_ble_eq_true rfl) rfl (Nat.le_of_ble_eq_true rfl) ?_
      refine al_size_ok g6 ?_
      refine X_icmp_ge 52 13 dX3_isAs_10 (by decide) rfl (fun _ => ?_) (fun c => absurd ((by rw [show i = vN v by omega]; exact nI_le (Nat.le_refl _) (by omega))) c)
      refine X_iconst (v := 1) 53 dX3_isAs_52 rfl (by decide) ?_
      refine X_zret dX3_isAs_53 rfl rfl ?_
      rw [b01_t (by unfold isAsB; rw [List.all_eq_true]; intro j hj; rw [hq j (by have := List.mem_range.mp hj; omega)]; simp)] at k
      exact k
    | succ rem ih =>
      intro i hi hq
      refine X_iload_n 3 dX3_isAs_2 rfl rfl ?_
      refine X_aload_n 4 dX3_isAs_3 rfl rfl ?_
      refine X_getR (t := 3) (k := 0) 7 dX3_isAs_4 rfl rfl (by decide) (by decide) (Or.inl rfl) q228 rfl g1 g5 ?_
      refine X_V0z 10 dX3_isAs_7 rfl rfl mo_J2_size rfl q2265 q310 q311 rfl (RV.t (t := 23) g6.1 (by decide) rfl) rfl (Nat.le_of_ble_eq_true rfl) rfl (Nat.le_of_ble_eq_true rfl) ?_
      refine al_size_ok g6 ?_
      refine X_icmp_ge 52 13 dX3_isAs_10 (by decide) rfl (fun c => absurd c (nI_ge (by omega) (by omega))) (fun _ => ?_)
      refine X_aload_n 14 dX3_isAs_13 rfl rfl ?_
      refine X_getR (t := 3) (k := 0) 17 dX3_isAs_14 rfl rfl (by decide) (by decide) (Or.inl rfl) q228 rfl g1 g5 ?_
      refine X_iload_n 18 dX3_isAs_17 rfl rfl ?_
      refine X_V1z 21 dX3_isAs_18 rfl rfl mo_J2_get rfl q2266 q891 q3185 rfl (RV.t (t := 23) g6.1 (by decide) rfl) rfl (Nat.le_of_ble_eq_true rfl) rfl (Nat.le_of_ble_eq_true rfl) ?_
      refine al_get_ok g6 i rfl (by omega) ?_
      refine X_cast (t := 4) 24 dX3_isAs_21 rfl (g7 i (by omega)).1 (by decide) rfl q2159 (Or.inl rfl) ?_
      refine X_gnI (t := 4) (k := 5) 27 dX3_isAs_24 rfl rfl (by decide) (by decide) q1673 rfl (g7 i (by omega)).1 ?_
      rw [(g7 i (by omega)).2.2.2 5 (by omega) (by omega)]
      refine X_aload_n 28 dX3_isAs_27 rfl rfl ?_
      refine X_getR (t := 3) (k := 0) 31 dX3_isAs_28 rfl rfl (by decide) (by decide) (Or.inl rfl) q228 rfl p1 p5 ?_
      refine X_iload_n 32 dX3_isAs_31 rfl rfl ?_
      refine X_V1z 35 dX3_isAs_32 rfl rfl mo_J2_get rfl q2266 q891 q3185 rfl (RV.t (t := 23) p6.1 (by decide) rfl) rfl (Nat.le_of_ble_eq_true rfl) rfl (Nat.le_of_ble_eq_true rfl) ?_
      refine al_get_ok p6 i rfl (by omega) ?_
      refine X_cast (t := 4) 38 dX3_isAs_35 rfl (p7 i (by omega)).1 (by decide) rfl q2159 (Or.inl rfl) ?_
      refine X_gnI (t := 4) (k := 5) 41 dX3_isAs_38 rfl rfl (by decide) (by decide) q1673 rfl (p7 i (by omega)).1 ?_
      rw [(p7 i (by omega)).2.2.2 5 (by omega) (by omega)]
      refine X_icmp_eq 46 44 dX3_isAs_41 (by decide) rfl (fun c_41 => ?_) (fun c_41 => ?_)
      · refine X_iinc2 (v := nI (i + 1)) 49 dX3_isAs_46 rfl (nI_1 i) (by decide) rfl ?_
        refine X_goto 2 dX3_isAs_49 (by decide) ?_
        exact ih (i + 1) (by omega) (fun j hj => by
          rcases Nat.lt_succ_iff_lt_or_eq.mp hj with q | q
          · exact hq j q
          · rw [q]; first | exact c_41 | exact Decidable.not_not.mp c_41)
      · refine X_iconst (v := 0) 45 dX3_isAs_44 rfl (by decide) ?_
        refine X_zret dX3_isAs_45 rfl rfl ?_
        rw [b01_f (fun q => c_41 (by have := List.all_eq_true.mp q i (List.mem_range.mpr (by omega)); simpa using this))] at k
        exact k
  have r0 := key (vN v) 0 (by omega) (fun j hj => absurd hj (Nat.not_lt_zero _))
  rw [nI_0] at r0
  exact r0

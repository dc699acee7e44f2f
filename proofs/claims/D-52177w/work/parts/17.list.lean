set_option maxRecDepth 100000
/-! ===== lists ===== -/
/-- a kind that is an object's -/
def El (t : Nat) : Prop := ∃ (C : String) (T : u_T) (N : Nat), t ≠ 0 ∧ CL[t]? = some (C, T, N) ∧ Cond.castable C "java/lang/Object" ∈ lw_tbl
theorem El.n {t : Nat} (h : El t) : t ≠ 0 := by obtain ⟨C, T, N, h, -⟩ := h; exact h
/-- the list at l holds f 0 .. f (n - 1); cap places -/
def AL (κ : Kx) (G : Gt) (l n : Nat) (f : Nat → Nat) (cap : Nat) : Prop :=
  gT G l = 23 ∧ kB κ ≤ l ∧ ow G l = some l ∧ gI G 23 2 l = nI n ∧ n ≤ cap ∧ cap ≤ 100000 ∧ (∀ i, i < n → El (gT G (f i))) ∧ ∃ e, gR G 23 1 l = some e ∧ gT G e = 103 ∧ gL G e = cap ∧ (∀ i, i < n → eR G e i = some (f i)) ∧ (∀ i, n ≤ i → i < cap → eR G e i = none) ∧ ((cap = 0 ∧ e = kC κ 23 ∧ ow G e = none) ∨ (0 < cap ∧ kB κ ≤ e ∧ ow G e = some l))
theorem AL.t {κ : Kx} {G : Gt} {l n cap : Nat} {f : Nat → Nat} (h : AL κ G l n f cap) : gT G l = 23 := h.1
theorem AL.md {κ : Kx} {S : List Nat} {G G' : Gt} {l n cap : Nat} {f : Nat → Nat} (h : AL κ G l n f cap) (m : Md S G G') (hl : l ∉ S) : AL κ G' l n f cap := by
  obtain ⟨h1, h2, h3, h4, h5, h6, h7, e, e1, e2, e3, e4, e6, e5⟩ := h
  have hs : ∀ x, ow G x = some l → ∀ y ∈ S, ow G x ≠ some y := fun x hx y hy e => hl (by rw [hx] at e; cases e; exact hy)
  have al := m.a (a := l) (by rw [h1]; decide) (hs l h3)
  have ae : agm G' G e := by
    rcases e5 with ⟨-, -, g⟩ | ⟨-, -, g⟩
    · exact m.a (by rw [e2]; decide) (fun y _ => by rw [g]; exact fun h => by cases h)
    · exact m.a (by rw [e2]; decide) (hs e g)
  refine ⟨al.t.trans h1, h2, al.o.trans h3, (al.i (by decide)).trans h4, h5, h6, fun i hi => by rw [m.k (h7 i hi).n]; exact h7 i hi, e, (al.r 23 1).trans e1, ae.t.trans e2, ae.l.trans e3, fun i hi => (ae.er i).trans (e4 i hi), fun i hi hj => (ae.er i).trans (e6 i hi hj), ?_⟩
  rw [ae.o]
  exact e5
theorem AL.cg {κ : Kx} {G : Gt} {l n cap : Nat} {f g : Nat → Nat} (h : AL κ G l n f cap) (hg : ∀ i, i < n → f i = g i) : AL κ G l n g cap := by
  obtain ⟨h1, h2, h3, h4, h5, h6, h7, e, e1, e2, e3, e4, e6, e5⟩ := h
  exact ⟨h1, h2, h3, h4, h5, h6, fun i hi => hg i hi ▸ h7 i hi, e, e1, e2, e3, fun i hi => hg i hi ▸ e4 i hi, e6, e5⟩
def ap (f : Nat → Nat) (n v : Nat) : Nat → Nat := fun i => if i = n then v else f i
theorem maxN {x y : Nat} (hx : x < 2147483648) (hy : y < 2147483648) : (if nI x < nI y then nI y else nI x) = nI (max x y) := by
  by_cases h : nI x < nI y
  · have := (nI_ltI hx hy).mp h
    rw [if_pos h, Nat.max_eq_right (by omega)]
  · have : ¬ x < y := fun e => h ((nI_ltI hx hy).mpr e)
    rw [if_neg h, Nat.max_eq_left (by omega)]
set_option maxHeartbeats 400000 in
theorem max_ok {κ : Kx} {d a b : Nat} {G : Gt} {Φ : Option Value → Gt → Prop} {Ψ : String → Nat → Gt → Prop} {x y : Int32} (k : Φ (some (.int (if x < y then y else x))) G) : X κ d mJ14_max 0 [some (.int x), some (.int y)] [] G a b Φ Ψ := by
  refine X_iload_n 1 dJ14_max_0 rfl rfl ?_
  refine X_iload_n 2 dJ14_max_1 rfl rfl ?_
  refine X_icmp_lt 9 5 dJ14_max_2 (by decide) rfl (fun c_2 => ?_) (fun c_2 => ?_)
  · refine X_iload_n 10 dJ14_max_9 rfl rfl ?_
    refine X_iret dJ14_max_10 rfl ?_
    first | (rw [if_pos c_2] at k; exact k) | (rw [if_neg c_2] at k; exact k)
  · refine X_iload_n 6 dJ14_max_5 rfl rfl ?_
    refine X_goto 10 dJ14_max_6 (by decide) ?_
    refine X_iret dJ14_max_10 rfl ?_
    first | (rw [if_pos c_2] at k; exact k) | (rw [if_neg c_2] at k; exact k)
set_option maxHeartbeats 400000 in
theorem min_ok {κ : Kx} {d a b : Nat} {G : Gt} {Φ : Option Value → Gt → Prop} {Ψ : String → Nat → Gt → Prop} {x y : Int32} (k : Φ (some (.int (if y < x then y else x))) G) : X κ d mJ14_min 0 [some (.int x), some (.int y)] [] G a b Φ Ψ := by
  refine X_iload_n 1 dJ14_min_0 rfl rfl ?_
  refine X_iload_n 2 dJ14_min_1 rfl rfl ?_
  refine X_icmp_gt 9 5 dJ14_min_2 (by decide) rfl (fun c_2 => ?_) (fun c_2 => ?_)
  · refine X_iload_n 10 dJ14_min_9 rfl rfl ?_
    refine X_iret dJ14_min_10 rfl ?_
    first | (rw [if_pos c_2] at k; exact k) | (rw [if_neg c_2] at k; exact k)
  · refine X_iload_n 6 dJ14_min_5 rfl rfl ?_
    refine X_goto 10 dJ14_min_6 (by decide) ?_
    refine X_iret dJ14_min_10 rfl ?_
    first | (rw [if_pos c_2] at k; exact k) | (rw [if_neg c_2] at k; exact k)
set_option maxHeartbeats 400000 in
theorem abs_ok {κ : Kx} {d a b : Nat} {G : Gt} {Φ : Option Value → Gt → Prop} {Ψ : String → Nat → Gt → Prop} {x : Int32} (k : Φ (some (.int (if 0 ≤ x then x else -x))) G) : X κ d mJ14_abs 0 [some (.int x)] [] G a b Φ Ψ := by
  refine X_iload_n 1 dJ14_abs_0 rfl rfl ?_
  refine X_if_ge 9 4 dJ14_abs_1 (by decide) rfl (fun c_1 => ?_) (fun c_1 => ?_)
  · refine X_iload_n 10 dJ14_abs_9 rfl rfl ?_
    refine X_iret dJ14_abs_10 rfl ?_
    first | (rw [if_pos c_1] at k; exact k) | (rw [if_neg c_1] at k; exact k)
  · refine X_iload_n 5 dJ14_abs_4 rfl rfl ?_
    refine X_ineg 6 dJ14_abs_5 rfl ?_
    refine X_goto 10 dJ14_abs_6 (by decide) ?_
    refine X_iret dJ14_abs_10 rfl ?_
    first | (rw [if_pos c_1] at k; exact k) | (rw [if_neg c_1] at k; exact k)
set_option maxHeartbeats 400000 in
theorem floorDiv_ok {κ : Kx} {d a b : Nat} {G : Gt} {Φ : Option Value → Gt → Prop} {Ψ : String → Nat → Gt → Prop} {x y : Int32} (hy : ¬ y = 0) (k : Φ (some (.int (fdiv x y))) G) : X κ d mJ14_floorDiv 0 [some (.int x), some (.int y), none] [] G a b Φ Ψ := by
  refine X_iload_n 1 dJ14_floorDiv_0 rfl rfl ?_
  refine X_iload_n 2 dJ14_floorDiv_1 rfl rfl ?_
  refine X_idiv 3 dJ14_floorDiv_2 rfl hy ?_
  refine X_istore2 4 dJ14_floorDiv_3 rfl (by decide) rfl ?_
  refine X_iload_n 5 dJ14_floorDiv_4 rfl rfl ?_
  refine X_iload_n 6 dJ14_floorDiv_5 rfl rfl ?_
  refine X_ixor 7 dJ14_floorDiv_6 rfl ?_
  refine X_if_ge 21 10 dJ14_floorDiv_7 (by decide) rfl (fun c_7 => ?_) (fun c_7 => ?_)
  · refine X_iload_n 22 dJ14_floorDiv_21 rfl rfl ?_
    refine X_iret dJ14_floorDiv_22 rfl ?_
    rw [fdiv, if_neg (by intro h; first | exact h.2 c_14 | exact Int32.not_lt.mpr c_7 h.1)] at k
    exact k
  · refine X_iload_n 11 dJ14_floorDiv_10 rfl rfl ?_
    refine X_iload_n 12 dJ14_floorDiv_11 rfl rfl ?_
    refine X_imul 13 dJ14_floorDiv_12 rfl ?_
    refine X_iload_n 14 dJ14_floorDiv_13 rfl rfl ?_
    refine X_icmp_eq 21 17 dJ14_floorDiv_14 (by decide) rfl (fun c_14 => ?_) (fun c_14 => ?_)
    · refine X_iload_n 22 dJ14_floorDiv_21 rfl rfl ?_
      refine X_iret dJ14_floorDiv_22 rfl ?_
      rw [fdiv, if_neg (by intro h; first | exact h.2 c_14 | exact Int32.not_lt.mpr c_7 h.1)] at k
      exact k
    · refine X_iload_n 18 dJ14_floorDiv_17 rfl rfl ?_
      refine X_iconst (v := 1) 19 dJ14_floorDiv_18 rfl (by decide) ?_
      refine X_isub 20 dJ14_floorDiv_19 rfl ?_
      refine X_iret dJ14_floorDiv_20 rfl ?_
      rw [fdiv, if_pos ⟨Int32.not_le.mp c_7, c_14⟩] at k
      exact k
set_option maxHeartbeats 400000 in
theorem minN_ok {κ : Kx} {d a b : Nat} {G : Gt} {Φ : Option Value → Gt → Prop} {Ψ : String → Nat → Gt → Prop} {x y : Int32} (m n : Nat) (hx : x = nI m) (hy : y = nI n) (h1 : m < 2147483648) (h2 : n < 2147483648) (k : Φ (some (.int (nI (min m n)))) G) : X κ d mJ14_min 0 [some (.int x), some (.int y)] [] G a b Φ Ψ := by
  refine X_iload_n 1 dJ14_min_0 rfl rfl ?_
  refine X_iload_n 2 dJ14_min_1 rfl rfl ?_
  refine X_icmp_gt 9 5 dJ14_min_2 (by decide) rfl (fun c_2 => ?_) (fun c_2 => ?_)
  · refine X_iload_n 10 dJ14_min_9 rfl rfl ?_
    refine X_iret dJ14_min_10 rfl ?_
    first | exact k | (rw [hx, hy] at c_2; have := (nI_ltI h2 h1).mp c_2; rw [hy]; rw [Nat.min_eq_right (by omega)] at k; exact k) | (rw [hx, hy] at c_2; have := mt (nI_ltI h2 h1).mpr c_2; rw [hx]; rw [Nat.min_eq_left (by omega)] at k; exact k)
  · refine X_iload_n 6 dJ14_min_5 rfl rfl ?_
    refine X_goto 10 dJ14_min_6 (by decide) ?_
    refine X_iret dJ14_min_10 rfl ?_
    first | exact k | (rw [hx, hy] at c_2; have := (nI_ltI h2 h1).mp c_2; rw [hy]; rw [Nat.min_eq_right (by omega)] at k; exact k) | (rw [hx, hy] at c_2; have := mt (nI_ltI h2 h1).mpr c_2; rw [hx]; rw [Nat.min_eq_left (by omega)] at k; exact k)
set_option maxHeartbeats 400000 in
theorem maxN_ok {κ : Kx} {d a b : Nat} {G : Gt} {Φ : Option Value → Gt → Prop} {Ψ : String → Nat → Gt → Prop} {x y : Int32} (m n : Nat) (hx : x = nI m) (hy : y = nI n) (h1 : m < 2147483648) (h2 : n < 2147483648) (k : Φ (some (.int (nI (max m n)))) G) : X κ d mJ14_max 0 [some (.int x), some (.int y)] [] G a b Φ Ψ := by
  refine X_iload_n 1 dJ14_max_0 rfl rfl ?_
  refine X_iload_n 2 dJ14_max_1 rfl rfl ?_
  refine X_icmp_lt 9 5 dJ14_max_2 (by decide) rfl (fun c_2 => ?_) (fun c_2 => ?_)
  · refine X_iload_n 10 dJ14_max_9 rfl rfl ?_
    refine X_iret dJ14_max_10 rfl ?_
    first | (rw [hx, hy] at c_2; have := (nI_ltI h1 h2).mp c_2; rw [hy]; rw [Nat.max_eq_right (by omega)] at k; exact k) | (rw [hx, hy] at c_2; have := mt (nI_ltI h1 h2).mpr c_2; rw [hx]; rw [Nat.max_eq_left (by omega)] at k; exact k)
  · refine X_iload_n 6 dJ14_max_5 rfl rfl ?_
    refine X_goto 10 dJ14_max_6 (by decide) ?_
    refine X_iret dJ14_max_10 rfl ?_
    first | (rw [hx, hy] at c_2; have := (nI_ltI h1 h2).mp c_2; rw [hy]; rw [Nat.max_eq_right (by omega)] at k; exact k) | (rw [hx, hy] at c_2; have := mt (nI_ltI h1 h2).mpr c_2; rw [hx]; rw [Nat.max_eq_left (by omega)] at k; exact k)
set_option maxHeartbeats 400000 in
theorem ci17_ok {κ : Kx} {d a b : Nat} {G : Gt} {Φ : Option Value → Gt → Prop} {Ψ : String → Nat → Gt → Prop} {x y : Int32} {v : Value} (i n : Nat) (hx : x = nI i) (hy : y = nI n) (hi : i < n) (hn : n < 2147483648) (k : Φ (some (.int (nI i))) G) : X κ d mJ17_checkIndex 0 [some (.int x), some (.int y), some v] [] G a b Φ Ψ := by
  refine X_iload_n 1 dJ17_checkIndex_0 rfl rfl ?_
  refine X_if_lt 9 4 dJ17_checkIndex_1 (by decide) rfl (fun c => absurd c (hx ▸ nI_pos (by omega))) (fun _ => ?_)
  refine X_iload_n 5 dJ17_checkIndex_4 rfl rfl ?_
  refine X_iload_n 6 dJ17_checkIndex_5 rfl rfl ?_
  refine X_icmp_lt 16 9 dJ17_checkIndex_6 (by decide) rfl (fun _ => ?_) (fun c => absurd (hx ▸ hy ▸ nI_lt hi hn) c)
  refine X_iload_n 17 dJ17_checkIndex_16 rfl rfl ?_
  refine X_iret dJ17_checkIndex_17 rfl ?_
  exact hx ▸ k
set_option maxHeartbeats 400000 in
theorem ci23_ok {κ : Kx} {d a b : Nat} {G : Gt} {Φ : Option Value → Gt → Prop} {Ψ : String → Nat → Gt → Prop} {x y : Int32} (i n : Nat) (hx : x = nI i) (hy : y = nI n) (hi : i < n) (hn : n < 2147483648) (k : Φ (some (.int (nI i))) G) : X κ (d + 1) mJ23_checkIndex 0 [some (.int x), some (.int y)] [] G a b Φ Ψ := by
  refine X_iload_n 1 dJ23_checkIndex_0 rfl rfl ?_
  refine X_iload_n 2 dJ23_checkIndex_1 rfl rfl ?_
  refine X_null 3 dJ23_checkIndex_2 rfl ?_
  refine X_S3z 6 dJ23_checkIndex_3 rfl rfl mo_J17_checkIndex rfl q897 q443 rfl (Nat.le_of_ble_eq_true rfl) rfl (Nat.le_of_ble_eq_true rfl) ?_
  refine ci17_ok i n hx hy hi hn ?_
  refine X_iret dJ23_checkIndex_6 rfl ?_
  exact k
set_option maxHeartbeats 400000 in
theorem newLen_ok {κ : Kx} {d a b : Nat} {G : Gt} {Φ : Option Value → Gt → Prop} {Ψ : String → Nat → Gt → Prop} {x y z : Int32} (o m p : Nat) (hx : x = nI o) (hy : y = nI m) (hz : z = nI p) (ho : o ≤ 100000000) (hm : m ≤ 100000000) (hp : p ≤ 100000000) (h0 : 0 < o + max m p) (k : Φ (some (.int (nI (o + max m p)))) G) : X κ (d + 1) mJ13_newLength 0 [some (.int x), some (.int y), some (.int z), none] [] G a b Φ Ψ := by
  refine X_iload_n 1 dJ13_newLength_0 rfl rfl ?_
  refine X_iload_n 2 dJ13_newLength_1 rfl rfl ?_
  refine X_iload_n 3 dJ13_newLength_2 rfl rfl ?_
  refine X_S2z 6 dJ13_newLength_3 rfl rfl mo_J14_max rfl q368 q369 rfl (Nat.le_of_ble_eq_true rfl) rfl (Nat.le_of_ble_eq_true rfl) ?_
  refine maxN_ok m p hy hz (by omega) (by omega) ?_
  refine X_iadd 7 dJ13_newLength_6 rfl ?_
  rw [hx, nI_add]
  refine X_istore3 8 dJ13_newLength_7 rfl (by decide) rfl ?_
  refine X_iconst (v := 0) 9 dJ13_newLength_8 rfl (by decide) ?_
  refine X_iload_n 10 dJ13_newLength_9 rfl rfl ?_
  refine X_icmp_ge 21 13 dJ13_newLength_10 (by decide) rfl (fun c => absurd c (fun h => nI_nle h0 (by omega) h)) (fun _ => ?_)
  refine X_iload_n 14 dJ13_newLength_13 rfl rfl ?_
  refine X_ldc 16 dJ13_newLength_14 rfl q371 ?_
  refine X_icmp_gt 21 19 dJ13_newLength_16 (by decide) rfl (fun c => absurd c (fun h => by
    rw [show (2147483639 : Int32) = nI 2147483639 by decide +kernel] at h
    have := (nI_ltI (by omega) (by omega)).mp h
    omega)) (fun _ => ?_)
  refine X_iload_n 20 dJ13_newLength_19 rfl rfl ?_
  refine X_iret dJ13_newLength_20 rfl ?_
  exact k
set_option maxHeartbeats 400000 in
theorem al_size_ok {κ : Kx} {d a b : Nat} {G : Gt} {Φ : Option Value → Gt → Prop} {Ψ : String → Nat → Gt → Prop} {l n cap : Nat} {f : Nat → Nat} (h : AL κ G l n f cap) (k : Φ (some (.int (nI n))) G) : X κ d mJ2_size 0 [some (.ref l)] [] G a b Φ Ψ := by
  refine X_aload_n 1 dJ2_size_0 rfl rfl ?_
  refine X_getI (t := 23) (k := 2) 4 dJ2_size_1 rfl rfl (by decide) (by decide) (Or.inl rfl) q184 rfl h.1 ?_
  refine X_iret dJ2_size_4 rfl ?_
  rw [h.2.2.2.1]
  exact k
set_option maxHeartbeats 400000 in
theorem al_isEmpty_ok {κ : Kx} {d a b : Nat} {G : Gt} {Φ : Option Value → Gt → Prop} {Ψ : String → Nat → Gt → Prop} {l n cap : Nat} {f : Nat → Nat} (h : AL κ G l n f cap) (k : Φ (some (.int (b01 (n = 0)))) G) : X κ d mJ2_isEmpty 0 [some (.ref l)] [] G a b Φ Ψ := by
  refine X_aload_n 1 dJ2_isEmpty_0 rfl rfl ?_
  refine X_getI (t := 23) (k := 2) 4 dJ2_isEmpty_1 rfl rfl (by decide) (by decide) (Or.inl rfl) q184 rfl h.1 ?_
  rw [h.2.2.2.1]
  have hn : n < 2147483648 := by have := h.2.2.2.2.1; have := h.2.2.2.2.2.1; omega
  refine X_if_ne 11 7 dJ2_isEmpty_4 (by decide) rfl (fun c_4 => ?_) (fun c_4 => ?_)
  · refine X_iconst (v := 0) 12 dJ2_isEmpty_11 rfl (by decide) ?_
    refine X_zret dJ2_isEmpty_12 rfl rfl ?_
    first | (rw [b01_f (fun e => c_4 (by rw [e]; exact nI_0))] at k; exact k) | (rw [b01_t (by by_cases e : n = 0; exact e; exact absurd c_4 (nI_ne0 (by omega) hn))] at k; exact k)
  · refine X_iconst (v := 1) 8 dJ2_isEmpty_7 rfl (by decide) ?_
    refine X_goto 12 dJ2_isEmpty_8 (by decide) ?_
    refine X_zret dJ2_isEmpty_12 rfl rfl ?_
    first | (rw [b01_f (fun e => c_4 (by rw [e]; exact nI_0))] at k; exact k) | (rw [b01_t (by by_cases e : n = 0; exact e; exact absurd c_4 (nI_ne0 (by omega) hn))] at k; exact k)
set_option maxHeartbeats 400000 in
theorem al_elementData_ok {κ : Kx} {d a b : Nat} {G : Gt} {Φ : Option Value → Gt → Prop} {Ψ : String → Nat → Gt → Prop} {l n cap i : Nat} {x : Int32} {f : Nat → Nat} (h : AL κ G l n f cap) (hx : x = nI i) (hi : i < n) (k : Φ (some (.ref (f i))) G) : X κ d mJ2_elementData 0 [some (.ref l), some (.int x)] [] G a b Φ Ψ := by
  obtain ⟨h1, h2, h3, h4, h5, h6, h7, e, e1, e2, e3, e4, e6, e5⟩ := h
  refine X_aload_n 1 dJ2_elementData_0 rfl rfl ?_
  refine X_getR (t := 23) (k := 1) 4 dJ2_elementData_1 rfl rfl (by decide) (by decide) (Or.inl rfl) q181 rfl h1 e1 ?_
  refine X_iload_n 5 dJ2_elementData_4 rfl rfl ?_
  refine X_aaload (t := 103) (i) 6 dJ2_elementData_5 rfl e2 (by decide) hx (by omega) (e4 i hi) ?_
  refine X_aret dJ2_elementData_6 rfl (Or.inl ⟨_, rfl⟩) ?_
  exact k
set_option maxHeartbeats 400000 in
theorem al_get_ok {κ : Kx} {d a b : Nat} {G : Gt} {Φ : Option Value → Gt → Prop} {Ψ : String → Nat → Gt → Prop} {l n cap : Nat} {x : Int32} {f : Nat → Nat} (h : AL κ G l n f cap) (i : Nat) (hx : x = nI i) (hi : i < n) (k : Φ (some (.ref (f i))) G) : X κ (d + 2) mJ2_get 0 [some (.ref l), some (.int x)] [] G a b Φ Ψ := by
  refine X_iload_n 1 dJ2_get_0 rfl rfl ?_
  refine X_aload_n 2 dJ2_get_1 rfl rfl ?_
  refine X_getI (t := 23) (k := 2) 5 dJ2_get_2 rfl rfl (by decide) (by decide) (Or.inl rfl) q184 rfl h.1 ?_
  rw [h.2.2.2.1]
  refine X_S2z 8 dJ2_get_5 rfl rfl mo_J23_checkIndex rfl q894 q895 rfl (Nat.le_of_ble_eq_true rfl) rfl (Nat.le_of_ble_eq_true rfl) ?_
  refine ci23_ok i n hx rfl hi (by have := h.2.2.2.2.1; have := h.2.2.2.2.2.1; omega) ?_
  refine X_pop 9 dJ2_get_8 rfl rfl ?_
  refine X_aload_n 10 dJ2_get_9 rfl rfl ?_
  refine X_iload_n 11 dJ2_get_10 rfl rfl ?_
  refine X_V1z 14 dJ2_get_11 rfl rfl mo_J2_elementData rfl q898 q899 q900 rfl (RV.t (t := 23) h.1 (by decide) rfl) rfl (Nat.le_of_ble_eq_true rfl) rfl (Nat.le_of_ble_eq_true rfl) ?_
  refine al_elementData_ok h hx hi ?_
  refine X_aret dJ2_get_14 rfl (Or.inl ⟨_, rfl⟩) ?_
  exact k
def alI (κ : Kx) (G : Gt) (l : Nat) : Gt := so (sR (sI G 23 0 l 0) 23 1 l (some (kC κ 23))) l (some l)
theorem AL.new {κ : Kx} {G : Gt} {l : Nat} {f : Nat → Nat} (hb : Bs κ G) (ht : gT G l = 23) (hB : kB κ ≤ l) (h0 : gI G 23 2 l = 0) : AL κ (alI κ G l) l 0 f 0 := by
  have hlt : kC κ 23 < kB κ := hb.1.2.2.2.2.2.2.2.2.2.2.2.2.2.1 23 (by omega)
  have hg := hb.2 _ hlt
  have hk := hb.1.2.2.2.2.2.2.2.2.2.2.2.2.2.2.2.2.2.1
  have hne : kC κ 23 ≠ l := by omega
  refine ⟨ht, hB, ?_, ?_, Nat.le_refl _, by omega, fun i hi => absurd hi (Nat.not_lt_zero _), kC κ 23, ?_, ?_, ?_, fun i hi => absurd hi (Nat.not_lt_zero _), fun i _ hi => absurd hi (Nat.not_lt_zero _), Or.inl ⟨rfl, rfl, ?_⟩⟩
  · simp [alI, ow, so, gR_sR]
  · simp only [alI, so, gI_sR, gI_sI]
    rw [if_neg (by omega), h0]; exact nI_0.symm
  · simp [alI, so, gR_sR]
  · exact hg.1.trans hk.1
  · exact hg.2.2.2.1.trans hk.2
  · show gR (alI κ G l) 0 0 _ = none
    simp only [alI, so, gR_sR, gR_sI, if_neg (fun e : kC κ 23 = l ∧ _ => hne e.1)]
    exact hb.o hlt
set_option maxHeartbeats 400000 in
theorem acoll_init_ok {κ : Kx} {d a b : Nat} {G : Gt} {Φ : Option Value → Gt → Prop} {Ψ : String → Nat → Gt → Prop} {l : Nat} (k : Φ none G) : X κ (d + 1) mJ0_init 0 [some (.ref l)] [] G a b Φ Ψ := by
  refine X_aload_n 1 dJ0_init_0 rfl rfl ?_
  refine X_objInit 4 dJ0_init_1 rfl q178 q142 q143 (Nat.le_of_ble_eq_true rfl) ?_
  refine X_vret dJ0_init_4 rfl ?_
  exact k
set_option maxHeartbeats 400000 in
theorem alist_init_ok {κ : Kx} {d a b : Nat} {G : Gt} {Φ : Option Value → Gt → Prop} {Ψ : String → Nat → Gt → Prop} {l : Nat} (ht : gT G l = 23) (hB : kB κ ≤ l) (k : Φ none (sI G 23 0 l 0)) : X κ (d + 2) mJ1_init 0 [some (.ref l)] [] G a b Φ Ψ := by
  refine X_aload_n 1 dJ1_init_0 rfl rfl ?_
  refine X_I0z 4 dJ1_init_1 rfl rfl mo_J0_init rfl rfl q175 q176 rfl rfl (Nat.le_of_ble_eq_true rfl) rfl (Nat.le_of_ble_eq_true rfl) ?_
  refine acoll_init_ok ?_
  refine X_aload_n 5 dJ1_init_4 rfl rfl ?_
  refine X_iconst (v := 0) 6 dJ1_init_5 rfl (by decide) ?_
  refine X_putI (t := 23) (k := 0) 9 dJ1_init_6 rfl rfl (by decide) (by decide) (Or.inl rfl) q185 (Or.inl rfl) rfl rfl rfl (by assumption) ht ?_
  refine X_vret dJ1_init_9 rfl ?_
  exact k
set_option maxHeartbeats 400000 in
theorem al_init_ok {κ : Kx} {d a b : Nat} {G : Gt} {Φ : Option Value → Gt → Prop} {Ψ : String → Nat → Gt → Prop} {l : Nat} (ht : gT G l = 23) (hB : kB κ ≤ l) (k : Φ none (alI κ G l)) : X κ (d + 3) mJ2_init 0 [some (.ref l)] [] G a b Φ Ψ := by
  refine X_aload_n 1 dJ2_init_0 rfl rfl ?_
  refine X_I0z 4 dJ2_init_1 rfl rfl mo_J1_init rfl rfl q172 q173 rfl rfl (Nat.le_of_ble_eq_true rfl) rfl (Nat.le_of_ble_eq_true rfl) ?_
  refine alist_init_ok ht hB ?_
  refine X_aload_n 5 dJ2_init_4 rfl rfl ?_
  refine X_getsR 8 23 dJ2_init_5 rfl rfl q179 ?_
  refine X_putR (t := 23) (k := 1) 11 dJ2_init_8 rfl rfl (by decide) (by decide) (Or.inl rfl) q181 (Or.inl rfl) rfl rfl rfl (by assumption) ht ?_
  refine X.gh (o := l) (w := some l) hB ?_
  refine X_vret dJ2_init_11 rfl ?_
  exact k
set_option maxHeartbeats 400000 in
theorem copyOf3_ok {κ : Kx} {d a b : Nat} {G : Gt} {Φ : Option Value → Gt → Prop} {Ψ : String → Nat → Gt → Prop} {e m : Nat} {x : Int32} {z : Nat} (ha : 1 ≤ a) (hb : m ≤ b) (he : gT G e = 103) (hx : x = nI m) (hm : m ≤ 60000000) (hl : gL G e < 2147483648) (hel : ∀ i, i < min (gL G e) m → ∀ y, eR G e i = some y → El (gT G y)) (hz : z = kC κ 26)
   (k : ∀ o G', gT G o = 0 → kB κ ≤ o → Md [] G G' → gT G' o = 103 → gL G' o = m → (∀ i, i < min (gL G e) m → eR G' o i = eR G e i) → (∀ i, min (gL G e) m ≤ i → eR G' o i = none) → ow G' o = none → Φ (some (.ref o)) G') : X κ (d + 1) mJ15_copyOf_3 0 [some (.ref e), some (.int x), some (.ref z), none] [] G a b Φ Ψ := by
  subst hz
  refine X_aload_n 1 dJ15_copyOf_3_0 rfl rfl ?_
  refine X_ldcM 3 dJ15_copyOf_3_1 rfl q805 ?_
  refine X_acmp_ne 13 6 dJ15_copyOf_3_3 (by decide) rfl (fun c => absurd c (fun h => h rfl)) (fun _ => ?_)
  refine X_iload_n 7 dJ15_copyOf_3_6 rfl rfl ?_
  refine X_anew (t := 103) (a' := a - 1) (b' := b - m) (m) 10 dJ15_copyOf_3_7 rfl q807 q806 (by decide) rfl hx (by omega) (by omega) (by omega) (fun o h0_o hB_o => ?_)
  have neo : e ≠ o := fun q => by rw [q] at he; rw [h0_o] at he; cases he
  have t1 : gT (nw G o 103 m) e = 103 := by rw [gT_nw, if_neg neo]; exact he
  have t2 : gT (nw G o 103 m) o = 103 := by rw [gT_nw, if_pos rfl]
  have l1 : gL (nw G o 103 m) e = gL G e := by rw [gL_nw, if_neg neo]
  have l2 : gL (nw G o 103 m) o = m := by rw [gL_nw, if_pos rfl]
  refine X_goto 24 dJ15_copyOf_3_10 (by decide) ?_
  refine X_astore3 25 dJ15_copyOf_3_24 rfl (by decide) rfl ?_
  refine X_aload_n 26 dJ15_copyOf_3_25 rfl rfl ?_
  refine X_iconst (v := 0) 27 dJ15_copyOf_3_26 rfl (by decide) ?_
  refine X_aload_n 28 dJ15_copyOf_3_27 rfl rfl ?_
  refine X_iconst (v := 0) 29 dJ15_copyOf_3_28 rfl (by decide) ?_
  refine X_aload_n 30 dJ15_copyOf_3_29 rfl rfl ?_
  refine X_alen (t := 103) 31 dJ15_copyOf_3_30 rfl t1 (by decide) ?_
  refine X_iload_n 32 dJ15_copyOf_3_31 rfl rfl ?_
  refine X_S2z 35 dJ15_copyOf_3_32 rfl rfl mo_J14_min rfl q386 q387 rfl (Nat.le_of_ble_eq_true rfl) rfl (Nat.le_of_ble_eq_true rfl) ?_
  rw [l1]
  refine minN_ok (gL G e) m rfl hx hl (by omega) ?_
  refine X_copyR 0 0 (min (gL G e) m) 38 dJ15_copyOf_3_35 rfl q389 q391 q390 q98 t1 t2 hB_o nI_0.symm nI_0.symm rfl (by rw [l1]; omega) (by rw [l2]; omega) (fun i hi y hy => by
    rw [Nat.zero_add, eR_nw, if_neg neo] at hy
    obtain ⟨C, T, N, g0, g1, g2⟩ := hel i hi y hy
    have : y ≠ o := fun q => by rw [q, h0_o] at g0; exact g0 rfl
    exact ⟨_, C, T, N, rfl, by rw [gT_nw, if_neg this]; exact g0, by rw [gT_nw, if_neg this]; exact g1, g2⟩) (Nat.le_of_ble_eq_true rfl) ?_
  refine X_aload_n 39 dJ15_copyOf_3_38 rfl rfl ?_
  refine X_aret dJ15_copyOf_3_39 rfl (Or.inr ⟨_, rfl⟩) ?_
  refine k o _ h0_o hB_o (((Md.rf [] G).nn h0_o).wr (Wr.n h0_o)) t2 l2 (fun i hi => ?_) (fun i hi => ?_) ?_
  · rw [eR_wR, if_pos rfl, va_cpy, if_pos ⟨Nat.zero_le _, by omega⟩, Nat.zero_add, Nat.sub_zero, eR_nw, if_neg neo]
  · rw [eR_wR, if_pos rfl, va_cpy, if_neg (by omega), eR_nw, if_pos rfl]
  · show gR (wR _ _ _) 0 0 o = none
    rw [gR_wR, gR_nw, if_pos rfl]
set_option maxHeartbeats 400000 in
theorem copyOf2_ok {κ : Kx} {d a b : Nat} {G : Gt} {Φ : Option Value → Gt → Prop} {Ψ : String → Nat → Gt → Prop} {e m : Nat} {x : Int32} (ha : 1 ≤ a) (hb : m ≤ b) (he : gT G e = 103) (hx : x = nI m) (hm : m ≤ 60000000) (hl : gL G e < 2147483648) (hel : ∀ i, i < min (gL G e) m → ∀ y, eR G e i = some y → El (gT G y))
   (k : ∀ o G', gT G o = 0 → kB κ ≤ o → Md [] G G' → gT G' o = 103 → gL G' o = m → (∀ i, i < min (gL G e) m → eR G' o i = eR G e i) → (∀ i, min (gL G e) m ≤ i → eR G' o i = none) → ow G' o = none → Φ (some (.ref o)) G') : X κ (d + 2) mJ15_copyOf_2 0 [some (.ref e), some (.int x)] [] G a b Φ Ψ := by
  refine X_aload_n 1 dJ15_copyOf_2_0 rfl rfl ?_
  refine X_iload_n 2 dJ15_copyOf_2_1 rfl rfl ?_
  refine X_aload_n 3 dJ15_copyOf_2_2 rfl rfl ?_
  refine X_getC 6 dJ15_copyOf_2_3 rfl q745 q3272 q3271 q746 q801 he (Nat.le_of_ble_eq_true rfl) ?_
  refine X_S3 (a1 := 1) (b1 := m) (a2 := (a - 1)) (b2 := (b - m)) 9 dJ15_copyOf_2_6 rfl rfl mo_J15_copyOf_3 rfl q802 q803 rfl (Nat.le_of_ble_eq_true rfl) rfl (Nat.le_of_ble_eq_true rfl) (by omega) (by omega) ?_
  refine copyOf3_ok (Nat.le_refl _) (Nat.le_refl _) he hx hm hl hel rfl ?_
  intro o G1 g1 g2 g3 g4 g5 g6 g7 g8
  refine X_aret dJ15_copyOf_2_9 rfl (Or.inr ⟨_, rfl⟩) ?_
  exact k o G1 g1 g2 g3 g4 g5 g6 g7 g8
def nc (cap m : Nat) : Nat := if cap = 0 then max 10 m else cap + max (m - cap) (cap / 2)
theorem nI_shr1 {n : Nat} (h : n ≤ 100000000) : nI n >>> (1 &&& 31) = nI (n / 2) := by
  have e : ((1 : Int32) &&& 31) = 1 := by decide +kernel
  rw [e]
  have h1 : (nI n).toBitVec = BitVec.ofNat 32 n := rfl
  apply Int32.toBitVec_inj.mp
  rw [Int32.toBitVec_shiftRight, h1]
  have h2 : (nI (n / 2)).toBitVec = BitVec.ofNat 32 (n / 2) := rfl
  rw [h2]
  have h3 : ((1 : Int32).toBitVec.smod 32) = 1#32 := by decide +kernel
  rw [h3]
  have hm : (BitVec.ofNat 32 n).msb = false := by
    rw [BitVec.msb_eq_decide]
    simp
    omega
  have h4 : (1#32).toNat = 1 := by decide
  show (BitVec.ofNat 32 n).sshiftRight (1#32).toNat = _
  rw [h4, BitVec.sshiftRight_eq_of_msb_false hm]
  apply BitVec.eq_of_toNat_eq
  simp only [BitVec.toNat_ushiftRight, BitVec.toNat_ofNat, Nat.shiftRight_eq_div_pow]
  omega
set_option maxHeartbeats 400000 in
theorem al_grow2_ok {κ : Kx} {d a b : Nat} {G : Gt} {Φ : Option Value → Gt → Prop} {Ψ : String → Nat → Gt → Prop} {l n cap : Nat} {x : Int32} {f : Nat → Nat} (h : AL κ G l n f cap) (m : Nat) (hx : x = nI m) (hm : cap < m) (hm2 : m ≤ 50000) (ha : 1 ≤ a) (hb : nc cap m ≤ b) (k : ∀ e G', AL κ G' l n f (nc cap m) → gR G' 23 1 l = some e → gI G' 23 0 l = gI G 23 0 l → Md [l] G G' → Φ (some (.ref e)) G') : X κ (d + 3) mJ2_grow_2 0 [some (.ref l), some (.int x), none, none] [] G a b Φ Ψ := by
  obtain ⟨h1, h2, h3, h4, h5, h6, h7, e, e1, e2, e3, e4, e6, e5⟩ := h
  refine X_aload_n 1 dJ2_grow_2_0 rfl rfl ?_
  refine X_getR (t := 23) (k := 1) 4 dJ2_grow_2_1 rfl rfl (by decide) (by decide) (Or.inl rfl) q181 rfl h1 e1 ?_
  refine X_alen (t := 103) 5 dJ2_grow_2_4 rfl e2 (by decide) ?_
  rw [e3]
  refine X_istore2 6 dJ2_grow_2_5 rfl (by decide) rfl ?_
  refine X_iload_n 7 dJ2_grow_2_6 rfl rfl ?_
  refine X_if_gt 20 10 dJ2_grow_2_7 (by decide) rfl (fun c_7 => ?_) (fun c_7 => ?_)
  · refine X_iload_n 21 dJ2_grow_2_20 rfl rfl ?_
    refine X_iload_n 22 dJ2_grow_2_21 rfl rfl ?_
    have hcp : 0 < cap := by
        by_cases q : cap = 0
        · rw [q, nI_0] at c_7; exact absurd c_7 (by decide +kernel)
        · omega
    have hnc : nc cap m = cap + max (m - cap) (cap / 2) := by rw [nc, if_neg (by omega)]
    refine X_iload_n 23 dJ2_grow_2_22 rfl rfl ?_
    refine X_isub 24 dJ2_grow_2_23 rfl ?_
    refine X_iload_n 25 dJ2_grow_2_24 rfl rfl ?_
    refine X_iconst (v := 1) 26 dJ2_grow_2_25 rfl (by decide) ?_
    refine X_ishr 27 dJ2_grow_2_26 rfl ?_
    rw [nI_shr1 (by omega), hx, show nI m - nI cap = nI (m - cap) from by rw [show m = (m - cap) + cap by omega, ← nI_add, Int32.add_sub_cancel, Nat.add_sub_cancel]]
    refine X_S3z 30 dJ2_grow_2_27 rfl rfl mo_J13_newLength rfl q741 q366 rfl (Nat.le_of_ble_eq_true rfl) rfl (Nat.le_of_ble_eq_true rfl) ?_
    refine newLen_ok cap (m - cap) (cap / 2) rfl rfl rfl (by omega) (by omega) (by omega) (by omega) ?_
    refine X_istore3 31 dJ2_grow_2_30 rfl (by decide) rfl ?_
    refine X_aload_n 32 dJ2_grow_2_31 rfl rfl ?_
    refine X_aload_n 33 dJ2_grow_2_32 rfl rfl ?_
    refine X_getR (t := 23) (k := 1) 36 dJ2_grow_2_33 rfl rfl (by decide) (by decide) (Or.inl rfl) q181 rfl h1 e1 ?_
    refine X_iload_n 37 dJ2_grow_2_36 rfl rfl ?_
    refine X_S2 (a1 := 1) (b1 := (nc cap m)) (a2 := (a - 1)) (b2 := (b - nc cap m)) 40 dJ2_grow_2_37 rfl rfl mo_J15_copyOf_2 rfl q742 q743 rfl (Nat.le_of_ble_eq_true rfl) rfl (Nat.le_of_ble_eq_true rfl) (by omega) (by omega) ?_
    refine copyOf2_ok (m := nc cap m) (Nat.le_refl _) (Nat.le_refl _) e2 (by rw [hnc]) (by omega) (by omega) (fun i hi y hy => ?_) ?_
    · rcases Nat.lt_or_ge i n with g | g
      · rw [e4 i g] at hy; cases hy; exact h7 i g
      · rw [e6 i g (by omega)] at hy; cases hy
    intro o G1 h0_o hB_o md t1 l1 r1 r2 w1
    refine X_dup_x1 41 dJ2_grow_2_40 rfl rfl rfl ?_
    refine X_putR (t := 23) (k := 1) 44 dJ2_grow_2_41 rfl rfl (by decide) (by decide) (Or.inl rfl) q181 (Or.inl rfl) rfl rfl rfl (by assumption) ((md.k (by rw [h1]; decide)).trans h1) ?_
    refine X.gh (o := o) (w := some l) hB_o ?_
    refine X_aret dJ2_grow_2_44 rfl (Or.inr ⟨_, rfl⟩) ?_
    have hlo : l ≠ o := fun q => by rw [q, h0_o] at h1; cases h1
    have al := md.a (a := l) (by rw [h1]; decide) (fun _ q => absurd q List.not_mem_nil)
    have mm : Md [l] G (so (sR G1 23 1 l (some o)) o (some l)) := (md.s0.sr (Wr.w (List.mem_singleton.mpr rfl) h3)).gh (Wr.n h0_o) (by rw [gT_sR, al.t, h1]; decide)
    refine k o _ ⟨h1 ▸ mm.k (by rw [h1]; decide), h2, ?_, ?_, by omega, by omega, fun i hi => by rw [mm.k (h7 i hi).n]; exact h7 i hi, o, ?_, ?_, ?_, fun i hi => ?_, fun i hi hj => ?_, Or.inr ⟨by omega, hB_o, ?_⟩⟩ ?_ ?_ mm
    · show gR (so _ _ _) 0 0 l = _
      simp only [so, gR_sR, hlo, false_and, if_false]; rw [if_neg (by omega)]; exact (al.r 0 0).trans h3
    · simp only [so, gI_sR]; exact (al.i (by decide)).trans h4
    · simp only [so, gR_sR, hlo, false_and, if_false, and_self, if_true]
    · simp only [so, gT_sR]; exact t1
    · simp only [so, gL_sR]; exact l1
    · simp only [so, eR_sR]; rw [r1 i (by omega)]; exact e4 i hi
    · simp only [so, eR_sR]
      rcases Nat.lt_or_ge i cap with g | g
      · rw [r1 i (by omega)]; exact e6 i hi g
      · exact r2 i (by omega)
    · simp only [ow, so, gR_sR, and_self, if_true]
    · simp only [so, gR_sR, hlo, false_and, if_false, and_self, if_true]
    · simp only [so, gI_sR]; exact al.i (by decide)
  · refine X_aload_n 11 dJ2_grow_2_10 rfl rfl ?_
    refine X_getR (t := 23) (k := 1) 14 dJ2_grow_2_11 rfl rfl (by decide) (by decide) (Or.inl rfl) q181 rfl h1 e1 ?_
    refine X_getsR 17 23 dJ2_grow_2_14 rfl rfl q179 ?_
    refine X_acmp_eq 45 20 dJ2_grow_2_17 (by decide) rfl (fun _ => ?_) (fun c => absurd (by
    rcases e5 with ⟨-, g, -⟩ | ⟨g, -⟩
    · exact g
    · exact absurd (nI_nle g (by omega)) (fun q => q (Int32.not_lt.mp c_7))) c)
    refine X_aload_n 46 dJ2_grow_2_45 rfl rfl ?_
    refine X_bipush (v := 10) 48 dJ2_grow_2_46 rfl (by decide) ?_
    refine X_iload_n 49 dJ2_grow_2_48 rfl rfl ?_
    have hc0 : cap = 0 := by
        by_cases q : cap = 0
        · exact q
        · exact absurd (Int32.not_lt.mp c_7) (nI_nle (by omega) (by omega))
    have hnc : nc cap m = max 10 m := by rw [nc, if_pos hc0]
    refine X_S2z 52 dJ2_grow_2_49 rfl rfl mo_J14_max rfl q808 q369 rfl (Nat.le_of_ble_eq_true rfl) rfl (Nat.le_of_ble_eq_true rfl) ?_
    refine maxN_ok 10 m rfl hx (by omega) (by omega) ?_
    refine X_anew (t := 103) (a' := a - 1) (b' := b - max 10 m) ((max 10 m)) 55 dJ2_grow_2_52 rfl q809 q806 (by decide) rfl rfl (by omega) (by omega) (by omega) (fun o h0_o hB_o => ?_)
    refine X_dup_x1 56 dJ2_grow_2_55 rfl rfl rfl ?_
    refine X_putR (t := 23) (k := 1) 59 dJ2_grow_2_56 rfl rfl (by decide) (by decide) (Or.inl rfl) q181 (Or.inl rfl) rfl rfl rfl (by assumption) (by rw [gT_nw, if_neg (fun q => by rw [q, h0_o] at h1; cases h1)]; exact h1) ?_
    refine X.gh (o := o) (w := some l) hB_o ?_
    refine X_aret dJ2_grow_2_59 rfl (Or.inr ⟨_, rfl⟩) ?_
    have hlo : l ≠ o := fun q => by rw [q, h0_o] at h1; cases h1
    have mm : Md [l] G (so (sR (nw G o 103 (max 10 m)) 23 1 l (some o)) o (some l)) := (((Md.rf [l] G).nn h0_o).sr (Wr.w (List.mem_singleton.mpr rfl) h3)).gh (Wr.n h0_o) (by rw [gT_sR, gT_nw, if_neg hlo, h1]; decide)
    have hn0 : n = 0 := by omega
    refine k o _ ⟨h1 ▸ mm.k (by rw [h1]; decide), h2, ?_, ?_, by omega, by omega, fun i hi => by omega, o, ?_, ?_, ?_, fun i hi => by omega, fun i _ _ => ?_, Or.inr ⟨by omega, hB_o, ?_⟩⟩ ?_ ?_ mm
    · simp only [ow, so, gR_sR, gR_nw]; simp only [hlo, false_and, if_false]; rw [if_neg (by omega)]; exact h3
    · simp only [so, gI_sR, gI_nw, if_neg hlo]; exact h4
    · simp only [so, gR_sR, gR_nw, hlo, false_and, if_false, and_self, if_true]
    · simp only [so, gT_sR, gT_nw, if_true]
    · simp only [so, gL_sR, gL_nw, if_true]; exact hnc.symm
    · simp only [so, eR_sR, eR_nw, if_true]
    · simp only [ow, so, gR_sR, and_self, if_true]
    · simp only [so, gR_sR, hlo, false_and, if_false, and_self, if_true]
    · simp only [so, gI_sR, gI_nw, if_neg hlo]
set_option maxHeartbeats 400000 in
theorem al_grow_ok {κ : Kx} {d a b : Nat} {G : Gt} {Φ : Option Value → Gt → Prop} {Ψ : String → Nat → Gt → Prop} {l n cap : Nat} {f : Nat → Nat} (h : AL κ G l n f cap) (hm : cap < n + 1) (hm2 : n < 50000) (ha : 1 ≤ a) (hb : nc cap (n + 1) ≤ b) (k : ∀ e G', AL κ G' l n f (nc cap (n + 1)) → gR G' 23 1 l = some e → gI G' 23 0 l = gI G 23 0 l → Md [l] G G' → Φ (some (.ref e)) G') : X κ (d + 4) mJ2_grow 0 [some (.ref l)] [] G a b Φ Ψ := by
  refine X_aload_n 1 dJ2_grow_0 rfl rfl ?_
  refine X_aload_n 2 dJ2_grow_1 rfl rfl ?_
  refine X_getI (t := 23) (k := 2) 5 dJ2_grow_2 rfl rfl (by decide) (by decide) (Or.inl rfl) q184 rfl h.1 ?_
  refine X_iconst (v := 1) 6 dJ2_grow_5 rfl (by decide) ?_
  refine X_iadd 7 dJ2_grow_6 rfl ?_
  rw [h.2.2.2.1, nI_1]
  refine X_V1 (a1 := 1) (b1 := (nc cap (n + 1))) (a2 := (a - 1)) (b2 := (b - nc cap (n + 1))) 10 dJ2_grow_7 rfl rfl mo_J2_grow_2 rfl q737 q739 qs4 rfl (RV.t (t := 23) h.1 (by decide) rfl) rfl (Nat.le_of_ble_eq_true rfl) rfl (Nat.le_of_ble_eq_true rfl) (by omega) (by omega) ?_
  refine al_grow2_ok h (n + 1) rfl hm (by omega) (Nat.le_refl _) (Nat.le_refl _) ?_
  intro e G1 g1 g2 g3 g4
  refine X_aret dJ2_grow_10 rfl (Or.inr ⟨_, rfl⟩) ?_
  exact k e G1 g1 g2 g3 g4
theorem AL.put {κ : Kx} {G : Gt} {l n cap e v : Nat} {f : Nat → Nat} (h : AL κ G l n f cap) (he : gR G 23 1 l = some e) (hn : n < cap) (hv : El (gT G v)) : AL κ (sI (uR G e n (some v)) 23 2 l (nI (n + 1))) l (n + 1) (ap f n v) cap := by
  obtain ⟨h1, h2, h3, h4, h5, h6, h7, e', e1, e2, e3, e4, e6, e5⟩ := h
  cases he.symm.trans e1
  refine ⟨h1, h2, h3, ?_, hn, h6, fun i hi => ?_, e, e1, e2, e3, fun i hi => ?_, fun i hi hj => ?_, e5⟩
  · rw [gI_sI, if_pos ⟨rfl, rfl, rfl⟩]
  · show El (gT G _)
    by_cases q : i = n
    · simp only [ap, q, if_true]; exact hv
    · simp only [ap, q, if_false]; exact h7 i (by omega)
  · rw [eR_sI, eR_uR]
    by_cases q : i = n
    · simp only [ap, q, and_self, if_true]
    · rw [if_neg (fun z => q z.2)]
      simp only [ap, q, if_false]; exact e4 i (by omega)
  · rw [eR_sI, eR_uR, if_neg (by omega)]
    exact e6 i (by omega) hj
set_option maxHeartbeats 400000 in
theorem al_add2f_ok {κ : Kx} {d a b : Nat} {G : Gt} {Φ : Option Value → Gt → Prop} {Ψ : String → Nat → Gt → Prop} {l n cap e v : Nat} {f : Nat → Nat} (h : AL κ G l n f cap) (he : gR G 23 1 l = some e) (hn : n < cap) (hv : El (gT G v)) (k : ∀ G', AL κ G' l (n + 1) (ap f n v) cap → Md [l] G G' → Φ none G') : X κ d mJ2_add_2 0 [some (.ref l), some (.ref v), some (.ref e), some (.int (nI n))] [] G a b Φ Ψ := by
  have h' := h
  obtain ⟨h1, h2, h3, h4, h5, h6, h7, e', e1, e2, e3, e4, e6, e5⟩ := h'
  cases he.symm.trans e1
  obtain ⟨C, T, N, v0, vC, vK⟩ := hv
  have eB : kB κ ≤ e := by rcases e5 with ⟨g, -⟩ | ⟨-, g, -⟩; omega; exact g
  have eo : ow G e = some l := by rcases e5 with ⟨g, -⟩ | ⟨-, -, g⟩; omega; exact g
  have hv : El (gT G v) := ⟨C, T, N, v0, vC, vK⟩
  refine X_iload_n 1 dJ2_add_2_0 rfl rfl ?_
  refine X_aload_n 2 dJ2_add_2_1 rfl rfl ?_
  refine X_alen (t := 103) 3 dJ2_add_2_2 rfl e2 (by decide) ?_
  rw [e3]
  refine X_icmp_ne 11 6 dJ2_add_2_3 (by decide) rfl (fun _ => ?_) (fun c => absurd c (fun q => by have := (nI_eq (by omega) (by omega)).mp q; omega))
  refine X_aload_n 12 dJ2_add_2_11 rfl rfl ?_
  refine X_iload_n 13 dJ2_add_2_12 rfl rfl ?_
  refine X_aload_n 14 dJ2_add_2_13 rfl rfl ?_
  refine X_aastore (t := 103) (n) 15 dJ2_add_2_14 rfl eB e2 (by decide) (by decide) rfl rfl (by omega) rfl v0 vC (Or.inr vK) ?_
  refine X_aload_n 16 dJ2_add_2_15 rfl rfl ?_
  refine X_iload_n 17 dJ2_add_2_16 rfl rfl ?_
  refine X_iconst (v := 1) 18 dJ2_add_2_17 rfl (by decide) ?_
  refine X_iadd 19 dJ2_add_2_18 rfl ?_
  rw [nI_1]
  refine X_putI (t := 23) (k := 2) 22 dJ2_add_2_19 rfl rfl (by decide) (by decide) (Or.inl rfl) q184 (Or.inl rfl) rfl rfl rfl h2 h1 ?_
  refine X_vret dJ2_add_2_22 rfl ?_
  refine k _ (h.put he hn hv) (((Md.rf [l] G).ur (Wr.w (List.mem_singleton.mpr rfl) eo)).si (Wr.w (List.mem_singleton.mpr rfl) h3))
set_option maxHeartbeats 400000 in
theorem al_add2g_ok {κ : Kx} {d a b : Nat} {G : Gt} {Φ : Option Value → Gt → Prop} {Ψ : String → Nat → Gt → Prop} {l n cap e v : Nat} {f : Nat → Nat} (h : AL κ G l n f cap) (he : gR G 23 1 l = some e) (hn : n = cap) (hm : n < 50000) (hv : El (gT G v)) (ha : 1 ≤ a) (hb : nc cap (n + 1) ≤ b) (k : ∀ G', AL κ G' l (n + 1) (ap f n v) (nc cap (n + 1)) → Md [l] G G' → Φ none G') : X κ (d + 5) mJ2_add_2 0 [some (.ref l), some (.ref v), some (.ref e), some (.int (nI n))] [] G a b Φ Ψ := by
  have h' := h
  obtain ⟨h1, h2, h3, h4, h5, h6, h7, e', e1, e2, e3, e4, e6, e5⟩ := h'
  cases he.symm.trans e1
  refine X_iload_n 1 dJ2_add_2_0 rfl rfl ?_
  refine X_aload_n 2 dJ2_add_2_1 rfl rfl ?_
  refine X_alen (t := 103) 3 dJ2_add_2_2 rfl e2 (by decide) ?_
  rw [e3]
  refine X_icmp_ne 11 6 dJ2_add_2_3 (by decide) rfl (fun c => absurd c (fun q => q (by rw [hn]))) (fun _ => ?_)
  refine X_aload_n 7 dJ2_add_2_6 rfl rfl ?_
  refine X_V0 (a1 := 1) (b1 := (nc cap (n + 1))) (a2 := (a - 1)) (b2 := (b - nc cap (n + 1))) 10 dJ2_add_2_7 rfl rfl mo_J2_grow rfl q733 q735 qs3 rfl (RV.t (t := 23) h1 (by decide) rfl) rfl (Nat.le_of_ble_eq_true rfl) rfl (Nat.le_of_ble_eq_true rfl) (by omega) (by omega) ?_
  refine al_grow_ok h (by omega) hm (Nat.le_refl _) (Nat.le_refl _) ?_
  intro e2' G1 g1 g2 g3 g4
  have h9 : n < nc cap (n + 1) := by unfold nc; split <;> omega
  have hv' : El (gT G1 v) := by rw [g4.k hv.n]; exact hv
  obtain ⟨k1, k2, k3, k4, k5, k6, k7, e', l1, l2, l3, l4, l6, l5⟩ := id g1
  cases g2.symm.trans l1
  obtain ⟨C, T, N, v0, vC, vK⟩ := hv'
  have eB : kB κ ≤ e2' := by rcases l5 with ⟨g, -⟩ | ⟨-, g, -⟩; omega; exact g
  have eo : ow G1 e2' = some l := by rcases l5 with ⟨g, -⟩ | ⟨-, -, g⟩; omega; exact g
  have hv' : El (gT G1 v) := ⟨C, T, N, v0, vC, vK⟩
  refine X_astore2 11 dJ2_add_2_10 rfl (by decide) rfl ?_
  refine X_aload_n 12 dJ2_add_2_11 rfl rfl ?_
  refine X_iload_n 13 dJ2_add_2_12 rfl rfl ?_
  refine X_aload_n 14 dJ2_add_2_13 rfl rfl ?_
  refine X_aastore (t := 103) (n) 15 dJ2_add_2_14 rfl eB l2 (by decide) (by decide) rfl rfl (by omega) rfl v0 vC (Or.inr vK) ?_
  refine X_aload_n 16 dJ2_add_2_15 rfl rfl ?_
  refine X_iload_n 17 dJ2_add_2_16 rfl rfl ?_
  refine X_iconst (v := 1) 18 dJ2_add_2_17 rfl (by decide) ?_
  refine X_iadd 19 dJ2_add_2_18 rfl ?_
  rw [nI_1]
  refine X_putI (t := 23) (k := 2) 22 dJ2_add_2_19 rfl rfl (by decide) (by decide) (Or.inl rfl) q184 (Or.inl rfl) rfl rfl rfl k2 k1 ?_
  refine X_vret dJ2_add_2_22 rfl ?_
  refine k _ (g1.put g2 h9 hv') (g4.trans (((Md.rf [l] G1).ur (Wr.w (List.mem_singleton.mpr rfl) eo)).si (Wr.w (List.mem_singleton.mpr rfl) k3)))
theorem AL.mc {κ : Kx} {G : Gt} {l n cap : Nat} {f : Nat → Nat} {x : Int32} (h : AL κ G l n f cap) : AL κ (sI G 23 0 l x) l n f cap := by
  obtain ⟨h1, h2, h3, h4, h5, h6, h7, e', e1, e2, e3, e4, e6, e5⟩ := h
  exact ⟨h1, h2, h3, by rw [gI_sI, if_neg (by omega)]; exact h4, h5, h6, h7, e', e1, e2, e3, e4, e6, e5⟩
set_option maxHeartbeats 400000 in
theorem al_addf_ok {κ : Kx} {d a b : Nat} {G : Gt} {Φ : Option Value → Gt → Prop} {Ψ : String → Nat → Gt → Prop} {l n cap v : Nat} {f : Nat → Nat} (h : AL κ G l n f cap) (hn : n < cap) (hv : El (gT G v)) (k : ∀ G', AL κ G' l (n + 1) (ap f n v) cap → Md [l] G G' → Φ (some (.int 1)) G') : X κ (d + 1) mJ2_add 0 [some (.ref l), some (.ref v)] [] G a b Φ Ψ := by
  obtain ⟨e, he⟩ : ∃ e, gR G 23 1 l = some e := ⟨_, h.2.2.2.2.2.2.2.choose_spec.1⟩
  refine X_aload_n 1 dJ2_add_0 rfl rfl ?_
  refine X_dup 2 dJ2_add_1 rfl rfl ?_
  refine X_getI (t := 23) (k := 0) 5 dJ2_add_2 rfl rfl (by decide) (by decide) (Or.inr q187) q188 rfl h.1 ?_
  refine X_iconst (v := 1) 6 dJ2_add_5 rfl (by decide) ?_
  refine X_iadd 7 dJ2_add_6 rfl ?_
  refine X_putI (t := 23) (k := 0) 10 dJ2_add_7 rfl rfl (by decide) (by decide) (Or.inr q187) q188 (Or.inl rfl) rfl rfl rfl h.2.1 h.1 ?_
  have hA : AL κ (sI G 23 0 l (gI G 23 0 l + 1)) l n f cap := h.mc
  have mA : Md [l] G (sI G 23 0 l (gI G 23 0 l + 1)) := (Md.rf [l] G).si (Wr.w (List.mem_singleton.mpr rfl) h.2.2.1)
  refine X_aload_n 11 dJ2_add_10 rfl rfl ?_
  refine X_aload_n 12 dJ2_add_11 rfl rfl ?_
  refine X_aload_n 13 dJ2_add_12 rfl rfl ?_
  refine X_getR (t := 23) (k := 1) 16 dJ2_add_13 rfl rfl (by decide) (by decide) (Or.inl rfl) q181 rfl hA.1 he ?_
  refine X_aload_n 17 dJ2_add_16 rfl rfl ?_
  refine X_getI (t := 23) (k := 2) 20 dJ2_add_17 rfl rfl (by decide) (by decide) (Or.inl rfl) q184 rfl hA.1 ?_
  rw [hA.2.2.2.1]
  refine X_V3z 23 dJ2_add_20 rfl rfl mo_J2_add_2 rfl q729 q731 qs2 rfl (RV.t (t := 23) hA.1 (by decide) rfl) rfl (Nat.le_of_ble_eq_true rfl) rfl (Nat.le_of_ble_eq_true rfl) ?_
  refine al_add2f_ok hA he hn hv ?_
  intro G1 g1 g2
  refine X_iconst (v := 1) 24 dJ2_add_23 rfl (by decide) ?_
  refine X_zret dJ2_add_24 rfl rfl ?_
  exact k G1 g1 (mA.trans g2)
set_option maxHeartbeats 400000 in
theorem al_addg_ok {κ : Kx} {d a b : Nat} {G : Gt} {Φ : Option Value → Gt → Prop} {Ψ : String → Nat → Gt → Prop} {l n cap v : Nat} {f : Nat → Nat} (h : AL κ G l n f cap) (hn : n = cap) (hm : n < 50000) (hv : El (gT G v)) (ha : 1 ≤ a) (hb : nc cap (n + 1) ≤ b) (k : ∀ G', AL κ G' l (n + 1) (ap f n v) (nc cap (n + 1)) → Md [l] G G' → Φ (some (.int 1)) G') : X κ (d + 6) mJ2_add 0 [some (.ref l), some (.ref v)] [] G a b Φ Ψ := by
  obtain ⟨e, he⟩ : ∃ e, gR G 23 1 l = some e := ⟨_, h.2.2.2.2.2.2.2.choose_spec.1⟩
  refine X_aload_n 1 dJ2_add_0 rfl rfl ?_
  refine X_dup 2 dJ2_add_1 rfl rfl ?_
  refine X_getI (t := 23) (k := 0) 5 dJ2_add_2 rfl rfl (by decide) (by decide) (Or.inr q187) q188 rfl h.1 ?_
  refine X_iconst (v := 1) 6 dJ2_add_5 rfl (by decide) ?_
  refine X_iadd 7 dJ2_add_6 rfl ?_
  refine X_putI (t := 23) (k := 0) 10 dJ2_add_7 rfl rfl (by decide) (by decide) (Or.inr q187) q188 (Or.inl rfl) rfl rfl rfl h.2.1 h.1 ?_
  have hA : AL κ (sI G 23 0 l (gI G 23 0 l + 1)) l n f cap := h.mc
  have mA : Md [l] G (sI G 23 0 l (gI G 23 0 l + 1)) := (Md.rf [l] G).si (Wr.w (List.mem_singleton.mpr rfl) h.2.2.1)
  refine X_aload_n 11 dJ2_add_10 rfl rfl ?_
  refine X_aload_n 12 dJ2_add_11 rfl rfl ?_
  refine X_aload_n 13 dJ2_add_12 rfl rfl ?_
  refine X_getR (t := 23) (k := 1) 16 dJ2_add_13 rfl rfl (by decide) (by decide) (Or.inl rfl) q181 rfl hA.1 he ?_
  refine X_aload_n 17 dJ2_add_16 rfl rfl ?_
  refine X_getI (t := 23) (k := 2) 20 dJ2_add_17 rfl rfl (by decide) (by decide) (Or.inl rfl) q184 rfl hA.1 ?_
  rw [hA.2.2.2.1]
  refine X_V3 (a1 := 1) (b1 := (nc cap (n + 1))) (a2 := (a - 1)) (b2 := (b - nc cap (n + 1))) 23 dJ2_add_20 rfl rfl mo_J2_add_2 rfl q729 q731 qs2 rfl (RV.t (t := 23) hA.1 (by decide) rfl) rfl (Nat.le_of_ble_eq_true rfl) rfl (Nat.le_of_ble_eq_true rfl) (by omega) (by omega) ?_
  refine al_add2g_ok hA he hn hm hv (Nat.le_refl _) (Nat.le_refl _) ?_
  intro G1 g1 g2
  refine X_iconst (v := 1) 24 dJ2_add_23 rfl (by decide) ?_
  refine X_zret dJ2_add_24 rfl rfl ?_
  exact k G1 g1 (mA.trans g2)
/-- the places after one more -/
def nc1 (cap n : Nat) : Nat := if n < cap then cap else nc cap (n + 1)
theorem nc1_le (cap n : Nat) (h : n ≤ cap) : n + 1 ≤ nc1 cap n := by unfold nc1 nc; split <;> (try split) <;> omega
theorem al_add_ok {κ : Kx} {d a b : Nat} {G : Gt} {Φ : Option Value → Gt → Prop} {Ψ : String → Nat → Gt → Prop} {l n cap v : Nat} {f : Nat → Nat} (h : AL κ G l n f cap) (hm : n < 50000) (hv : El (gT G v)) (ha : 1 ≤ a) (hb : nc1 cap n ≤ b) (k : ∀ G', AL κ G' l (n + 1) (ap f n v) (nc1 cap n) → Md [l] G G' → Φ (some (.int 1)) G') : X κ (d + 6) mJ2_add 0 [some (.ref l), some (.ref v)] [] G a b Φ Ψ := by
  by_cases q : n < cap
  · have e : nc1 cap n = cap := if_pos q
    rw [e] at k
    exact al_addf_ok h q hv k
  · have e : nc1 cap n = nc cap (n + 1) := if_neg q
    rw [e] at k hb
    exact al_addg_ok h (by have := h.2.2.2.2.1; omega) hm hv ha hb k
/-- the walker it over the list l stands before place j -/
def IT (κ : Kx) (G : Gt) (it l j : Nat) : Prop := gT G it = 24 ∧ kB κ ≤ it ∧ ow G it = some it ∧ gI G 24 0 it = nI j ∧ gI G 24 2 it = gI G 23 0 l ∧ gR G 24 3 it = some l
theorem IT.md {κ : Kx} {S : List Nat} {G G' : Gt} {it l j : Nat} (h : IT κ G it l j) (m : Md S G G') (hl : it ∉ S) (hm : gI G' 23 0 l = gI G 23 0 l) : IT κ G' it l j := by
  obtain ⟨h1, h2, h3, h4, h5, h6⟩ := h
  have al := m.a (a := it) (by rw [h1]; decide) (fun y hy e => hl (by rw [h3] at e; cases e; exact hy))
  exact ⟨al.t.trans h1, h2, al.o.trans h3, (al.i (by decide)).trans h4, by rw [al.i (by decide), hm]; exact h5, (al.r 24 3).trans h6⟩
theorem AL.mcs {κ : Kx} {S : List Nat} {G G' : Gt} {l n cap : Nat} {f : Nat → Nat} (h : AL κ G l n f cap) (m : Md S G G') (hl : l ∉ S) : gI G' 23 0 l = gI G 23 0 l :=
  (m.a (a := l) (by rw [h.1]; decide) (fun y hy e => hl (by rw [h.2.2.1] at e; cases e; exact hy))).i (by decide)
set_option maxHeartbeats 400000 in
theorem it_init_ok {κ : Kx} {d a b : Nat} {G : Gt} {Φ : Option Value → Gt → Prop} {Ψ : String → Nat → Gt → Prop} {it l n cap : Nat} {f : Nat → Nat} (h : AL κ G l n f cap) (ht : gT G it = 24) (hB : kB κ ≤ it) (h0 : gI G 24 0 it = 0) (k : ∀ G', IT κ G' it l 0 → (∀ S G0, Md S G0 G → gT G0 it = 0 → Md S G0 G') → Φ none G') : X κ (d + 1) mJ32_init 0 [some (.ref it), some (.ref l)] [] G a b Φ Ψ := by
  refine X_aload_n 1 dJ32_init_0 rfl rfl ?_
  refine X_aload_n 2 dJ32_init_1 rfl rfl ?_
  refine X_putR (t := 24) (k := 3) 5 dJ32_init_2 rfl rfl (by decide) (by decide) (Or.inl rfl) q2126 (Or.inr ⟨rfl, rfl⟩) rfl rfl rfl (by assumption) ht ?_
  refine X_aload_n 6 dJ32_init_5 rfl rfl ?_
  refine X_objInit 9 dJ32_init_6 rfl q2122 q142 q143 (Nat.le_of_ble_eq_true rfl) ?_
  refine X_aload_n 10 dJ32_init_9 rfl rfl ?_
  refine X_iconst (v := -1) 11 dJ32_init_10 rfl (by decide) ?_
  refine X_putI (t := 24) (k := 1) 14 dJ32_init_11 rfl rfl (by decide) (by decide) (Or.inl rfl) q2124 (Or.inl rfl) rfl rfl rfl (by assumption) ht ?_
  refine X_aload_n 15 dJ32_init_14 rfl rfl ?_
  refine X_aload_n 16 dJ32_init_15 rfl rfl ?_
  refine X_getR (t := 24) (k := 3) 19 dJ32_init_16 rfl rfl (by decide) (by decide) (Or.inl rfl) q2126 rfl ht (by rw [gR_sI, gR_sR, if_pos ⟨rfl, rfl, rfl⟩]) ?_
  refine X_getI (t := 23) (k := 0) 22 dJ32_init_19 rfl rfl (by decide) (by decide) (Or.inr q187) q186 rfl h.1 ?_
  refine X_putI (t := 24) (k := 2) 25 dJ32_init_22 rfl rfl (by decide) (by decide) (Or.inl rfl) q2125 (Or.inl rfl) rfl rfl rfl (by assumption) ht ?_
  refine X.gh (o := it) (w := some it) hB ?_
  refine X_vret dJ32_init_25 rfl ?_
  have hne : it ≠ l := fun e => by rw [e, h.1] at ht; cases ht
  have hne' : l ≠ it := fun e => hne e.symm
  refine k _ ⟨ht, hB, ?_, ?_, ?_, ?_⟩ (fun S G0 m g0 => ?_)
  · simp only [ow, so, gR_sR, and_self, if_true]
  · simp only [so, gI_sR, gI_sI, true_and, and_self, if_true]; simp only [show ¬ (0 = 1) by decide, show ¬ (0 = 2) by decide, if_false, h0]; exact nI_0.symm
  · simp only [so, gI_sR, gI_sI, and_self, if_true]; simp only [hne', false_and, if_false]
  · simp only [so, gR_sR, gR_sI, and_self, if_true]; simp only [show ¬ (24 = 0) by decide, false_and, and_false, if_false]
  · exact ((((m.sr (Wr.n g0)).si (Wr.n g0)).si (Wr.n g0))).gh (Wr.n g0) (by rw [gT_sI, gT_sI, gT_sR, ht]; decide)
set_option maxHeartbeats 400000 in
theorem al_iterator_ok {κ : Kx} {d a b : Nat} {G : Gt} {Φ : Option Value → Gt → Prop} {Ψ : String → Nat → Gt → Prop} {l n cap : Nat} {f : Nat → Nat} (h : AL κ G l n f cap) (ha : 1 ≤ a) (hb : 4 ≤ b) (k : ∀ it G', gT G it = 0 → IT κ G' it l 0 → Md [] G G' → Φ (some (.ref it)) G') : X κ (d + 2) mJ2_iterator 0 [some (.ref l)] [] G a b Φ Ψ := by
  refine X_new (t := 24) (a' := a - 1) (b' := b - 4) 3 dJ2_iterator_0 rfl rfl (by decide) q2117 q2118 q134 (by omega) (by omega) (fun o h0_o hB_o => ?_)
  refine X_dup 4 dJ2_iterator_3 rfl rfl ?_
  refine X_aload_n 5 dJ2_iterator_4 rfl rfl ?_
  refine X_I1z 8 dJ2_iterator_5 rfl rfl mo_J32_init rfl rfl q2119 q2120 rfl rfl (Nat.le_of_ble_eq_true rfl) rfl (Nat.le_of_ble_eq_true rfl) ?_
  refine it_init_ok (l := l) (h.md (S := []) ((Md.rf [] G).nn h0_o) List.not_mem_nil) (by rw [gT_nw, if_pos rfl]) hB_o (by rw [gI_nw, if_pos rfl]) ?_
  intro G1 g1 g2
  refine X_aret dJ2_iterator_8 rfl (Or.inl ⟨_, rfl⟩) ?_
  exact k o G1 h0_o g1 (g2 [] G ((Md.rf [] G).nn h0_o) h0_o)
set_option maxHeartbeats 400000 in
theorem it_hasNext_ok {κ : Kx} {d a b : Nat} {G : Gt} {Φ : Option Value → Gt → Prop} {Ψ : String → Nat → Gt → Prop} {it l n cap j : Nat} {f : Nat → Nat} (h : AL κ G l n f cap) (hi : IT κ G it l j) (hj : j ≤ n) (k : Φ (some (.int (b01 (j < n)))) G) : X κ d mJ32_hasNext 0 [some (.ref it)] [] G a b Φ Ψ := by
  refine X_aload_n 1 dJ32_hasNext_0 rfl rfl ?_
  refine X_getI (t := 24) (k := 0) 4 dJ32_hasNext_1 rfl rfl (by decide) (by decide) (Or.inl rfl) q2123 rfl hi.1 ?_
  refine X_aload_n 5 dJ32_hasNext_4 rfl rfl ?_
  refine X_getR (t := 24) (k := 3) 8 dJ32_hasNext_5 rfl rfl (by decide) (by decide) (Or.inl rfl) q2126 rfl hi.1 hi.2.2.2.2.2 ?_
  refine X_gnI (t := 23) (k := 2) 11 dJ32_hasNext_8 rfl rfl (by decide) (by decide) q183 rfl h.1 ?_
  rw [hi.2.2.2.1, h.2.2.2.1]
  have hn : n < 2147483648 := by have := h.2.2.2.2.1; have := h.2.2.2.2.2.1; omega
  refine X_icmp_eq 18 14 dJ32_hasNext_11 (by decide) rfl (fun c_11 => ?_) (fun c_11 => ?_)
  · refine X_iconst (v := 0) 19 dJ32_hasNext_18 rfl (by decide) ?_
    refine X_zret dJ32_hasNext_19 rfl rfl ?_
    first | (rw [b01_f (by have := (nI_eq (by omega) (by omega)).mp c_11; omega)] at k; exact k) | (rw [b01_t (by have := mt (nI_eq (a := j) (b := n) (by omega) (by omega)).mpr c_11; omega)] at k; exact k)
  · refine X_iconst (v := 1) 15 dJ32_hasNext_14 rfl (by decide) ?_
    refine X_goto 19 dJ32_hasNext_15 (by decide) ?_
    refine X_zret dJ32_hasNext_19 rfl rfl ?_
    first | (rw [b01_f (by have := (nI_eq (by omega) (by omega)).mp c_11; omega)] at k; exact k) | (rw [b01_t (by have := mt (nI_eq (a := j) (b := n) (by omega) (by omega)).mpr c_11; omega)] at k; exact k)
set_option maxHeartbeats 400000 in
theorem it_cfc_ok {κ : Kx} {d a b : Nat} {G : Gt} {Φ : Option Value → Gt → Prop} {Ψ : String → Nat → Gt → Prop} {it l j : Nat} (hl : gT G l = 23) (hi : IT κ G it l j) (k : Φ none G) : X κ d mJ32_checkForComodification 0 [some (.ref it)] [] G a b Φ Ψ := by
  refine X_aload_n 1 dJ32_checkForComodification_0 rfl rfl ?_
  refine X_getR (t := 24) (k := 3) 4 dJ32_checkForComodification_1 rfl rfl (by decide) (by decide) (Or.inl rfl) q2126 rfl hi.1 hi.2.2.2.2.2 ?_
  refine X_getI (t := 23) (k := 0) 7 dJ32_checkForComodification_4 rfl rfl (by decide) (by decide) (Or.inr q187) q186 rfl hl ?_
  refine X_aload_n 8 dJ32_checkForComodification_7 rfl rfl ?_
  refine X_getI (t := 24) (k := 2) 11 dJ32_checkForComodification_8 rfl rfl (by decide) (by decide) (Or.inl rfl) q2125 rfl hi.1 ?_
  refine X_icmp_eq 22 14 dJ32_checkForComodification_11 (by decide) rfl (fun _ => ?_) (fun c => absurd (hi.2.2.2.2.1.symm) c)
  refine X_vret dJ32_checkForComodification_22 rfl ?_
  exact k
set_option maxHeartbeats 400000 in
theorem it_next_ok {κ : Kx} {d a b : Nat} {G : Gt} {Φ : Option Value → Gt → Prop} {Ψ : String → Nat → Gt → Prop} {it l n cap j : Nat} {f : Nat → Nat} (h : AL κ G l n f cap) (hi : IT κ G it l j) (hj : j < n) (k : ∀ G', AL κ G' l n f cap → IT κ G' it l (j + 1) → Md [it] G G' → Φ (some (.ref (f j))) G') : X κ (d + 1) mJ32_next 0 [some (.ref it), none, none] [] G a b Φ Ψ := by
  obtain ⟨h1, h2, h3, h4, h5, h6, h7, e, e1, e2, e3, e4, e6, e5⟩ := id h
  have hne : it ≠ l := fun e => by have := hi.1; rw [e, h.1] at this; cases this
  refine X_aload_n 1 dJ32_next_0 rfl rfl ?_
  refine X_V0z 4 dJ32_next_1 rfl rfl mo_J32_checkForComodification rfl q2155 q2156 q2157 rfl (RV.t (t := 24) hi.1 (by decide) rfl) rfl (Nat.le_of_ble_eq_true rfl) rfl (Nat.le_of_ble_eq_true rfl) ?_
  refine it_cfc_ok h.1 hi ?_
  refine X_aload_n 5 dJ32_next_4 rfl rfl ?_
  refine X_getI (t := 24) (k := 0) 8 dJ32_next_5 rfl rfl (by decide) (by decide) (Or.inl rfl) q2123 rfl hi.1 ?_
  rw [hi.2.2.2.1]
  refine X_istore1 9 dJ32_next_8 rfl (by decide) rfl ?_
  refine X_iload_n 10 dJ32_next_9 rfl rfl ?_
  refine X_aload_n 11 dJ32_next_10 rfl rfl ?_
  refine X_getR (t := 24) (k := 3) 14 dJ32_next_11 rfl rfl (by decide) (by decide) (Or.inl rfl) q2126 rfl hi.1 hi.2.2.2.2.2 ?_
  refine X_gnI (t := 23) (k := 2) 17 dJ32_next_14 rfl rfl (by decide) (by decide) q183 rfl h.1 ?_
  rw [h.2.2.2.1]
  refine X_icmp_lt 28 20 dJ32_next_17 (by decide) rfl (fun _ => ?_) (fun c => absurd (nI_lt hj (by omega)) c)
  refine X_aload_n 29 dJ32_next_28 rfl rfl ?_
  refine X_getR (t := 24) (k := 3) 32 dJ32_next_29 rfl rfl (by decide) (by decide) (Or.inl rfl) q2126 rfl hi.1 hi.2.2.2.2.2 ?_
  refine X_getR (t := 23) (k := 1) 35 dJ32_next_32 rfl rfl (by decide) (by decide) (Or.inl rfl) q182 rfl h.1 e1 ?_
  refine X_astore2 36 dJ32_next_35 rfl (by decide) rfl ?_
  refine X_iload_n 37 dJ32_next_36 rfl rfl ?_
  refine X_aload_n 38 dJ32_next_37 rfl rfl ?_
  refine X_alen (t := 103) 39 dJ32_next_38 rfl e2 (by decide) ?_
  rw [e3]
  refine X_icmp_lt 50 42 dJ32_next_39 (by decide) rfl (fun _ => ?_) (fun c => absurd (nI_lt (by omega) (by omega)) c)
  refine X_aload_n 51 dJ32_next_50 rfl rfl ?_
  refine X_iload_n 52 dJ32_next_51 rfl rfl ?_
  refine X_iconst (v := 1) 53 dJ32_next_52 rfl (by decide) ?_
  refine X_iadd 54 dJ32_next_53 rfl ?_
  refine X_putI (t := 24) (k := 0) 57 dJ32_next_54 rfl rfl (by decide) (by decide) (Or.inl rfl) q2123 (Or.inl rfl) rfl rfl rfl hi.2.1 hi.1 ?_
  refine X_aload_n 58 dJ32_next_57 rfl rfl ?_
  refine X_aload_n 59 dJ32_next_58 rfl rfl ?_
  refine X_iload_n 60 dJ32_next_59 rfl rfl ?_
  refine X_dup_x1 61 dJ32_next_60 rfl rfl rfl ?_
  refine X_putI (t := 24) (k := 1) 64 dJ32_next_61 rfl rfl (by decide) (by decide) (Or.inl rfl) q2124 (Or.inl rfl) rfl rfl rfl hi.2.1 hi.1 ?_
  refine X_aaload (t := 103) (j) 65 dJ32_next_64 rfl e2 (by decide) rfl (by show j < gL G e; omega) (e4 j hj) ?_
  refine X_aret dJ32_next_65 rfl (Or.inl ⟨_, rfl⟩) ?_
  have mm : Md [it] G (sI (sI G 24 0 it (nI j + 1)) 24 1 it (nI j)) := ((Md.rf [it] G).si (Wr.w (List.mem_singleton.mpr rfl) hi.2.2.1)).si (Wr.w (List.mem_singleton.mpr rfl) hi.2.2.1)
  refine k _ (h.md mm (fun q => hne (List.mem_singleton.mp q).symm)) ⟨hi.1, hi.2.1, hi.2.2.1, ?_, ?_, hi.2.2.2.2.2⟩ mm
  · simp only [gI_sI, and_self, if_true, true_and]; simp only [show ¬ (0 = 1) by decide, if_false]; exact nI_1 j
  · simp only [gI_sI, true_and]; simp only [show ¬ (2 = 1) by decide, show ¬ (2 = 0) by decide, show ¬ (23 = 24) by decide, and_false, false_and, if_false]; exact hi.2.2.2.2.1
set_option maxHeartbeats 400000 in
theorem al_clear_ok {κ : Kx} {d a b : Nat} {G : Gt} {Φ : Option Value → Gt → Prop} {Ψ : String → Nat → Gt → Prop} {l n cap : Nat} {f : Nat → Nat} (h : AL κ G l n f cap) (k : ∀ G', AL κ G' l 0 f cap → Md [l] G G' → Φ none G') : X κ d mJ2_clear 0 [some (.ref l), none, none, none] [] G a b Φ Ψ := by
  obtain ⟨h1, h2, h3, h4, h5, h6, h7, e, e1, e2, e3, e4, e6, e5⟩ := id h
  have hle : l ≠ e := fun q => by rw [q, e2] at h1; cases h1
  refine X_aload_n 1 dJ2_clear_0 rfl rfl ?_
  refine X_dup 2 dJ2_clear_1 rfl rfl ?_
  refine X_getI (t := 23) (k := 0) 5 dJ2_clear_2 rfl rfl (by decide) (by decide) (Or.inr q187) q188 rfl h.1 ?_
  refine X_iconst (v := 1) 6 dJ2_clear_5 rfl (by decide) ?_
  refine X_iadd 7 dJ2_clear_6 rfl ?_
  refine X_putI (t := 23) (k := 0) 10 dJ2_clear_7 rfl rfl (by decide) (by decide) (Or.inr q187) q188 (Or.inl rfl) rfl rfl rfl h.2.1 h.1 ?_
  have hA : AL κ (sI G 23 0 l (gI G 23 0 l + 1)) l n f cap := h.mc
  have mA : Md [l] G (sI G 23 0 l (gI G 23 0 l + 1)) := (Md.rf [l] G).si (Wr.w (List.mem_singleton.mpr rfl) h.2.2.1)
  refine X_aload_n 11 dJ2_clear_10 rfl rfl ?_
  refine X_getR (t := 23) (k := 1) 14 dJ2_clear_11 rfl rfl (by decide) (by decide) (Or.inl rfl) q181 rfl h.1 e1 ?_
  refine X_astore1 15 dJ2_clear_14 rfl (by decide) rfl ?_
  refine X_aload_n 16 dJ2_clear_15 rfl rfl ?_
  refine X_getI (t := 23) (k := 2) 19 dJ2_clear_16 rfl rfl (by decide) (by decide) (Or.inl rfl) q184 rfl h.1 ?_
  rw [show gI (sI G 23 0 l (gI G 23 0 l + 1)) 23 2 l = nI n from hA.2.2.2.1]
  refine X_istore2 20 dJ2_clear_19 rfl (by decide) rfl ?_
  refine X_aload_n 21 dJ2_clear_20 rfl rfl ?_
  refine X_iconst (v := 0) 22 dJ2_clear_21 rfl (by decide) ?_
  refine X_dup_x1 23 dJ2_clear_22 rfl rfl rfl ?_
  refine X_putI (t := 23) (k := 2) 26 dJ2_clear_23 rfl rfl (by decide) (by decide) (Or.inl rfl) q184 (Or.inl rfl) rfl rfl rfl h.2.1 h.1 ?_
  refine X_istore3 27 dJ2_clear_26 rfl (by decide) rfl ?_
  have key : ∀ i, i ≤ n → ∀ G', (∀ x, x ≠ e → agr G' (sI (sI G 23 0 l (gI G 23 0 l + 1)) 23 2 l 0) x) → gT G' e = 103 → gL G' e = cap → ow G' e = ow G e → (∀ j, j < n - i → eR G' e j = none) → (∀ j, n ≤ j → j < cap → eR G' e j = none) → Md [l] G G' → X κ d mJ2_clear 27 [some (.ref l), some (.ref e), some (.int (nI n)), some (.int (nI (n - i)))] [] G' a b Φ Ψ := by
    intro i
    induction i with
    | zero =>
      intro _ G' g1 g2 g3 g4 g5 g6 g7
      refine X_iload_n 28 dJ2_clear_27 rfl rfl ?_
      refine X_iload_n 29 dJ2_clear_28 rfl rfl ?_
      refine X_icmp_ge 42 32 dJ2_clear_29 (by decide) rfl (fun _ => ?_) (fun c => absurd (nI_le (Nat.le_refl _) (by omega)) c)
      refine X_vret dJ2_clear_42 rfl ?_
      have al := g1 l hle
      refine k G' ⟨al.1.trans h1, h2, ?_, ?_, Nat.zero_le _, h6, fun i hi => absurd hi (Nat.not_lt_zero _), e, ?_, g2, g3, fun i hi => absurd hi (Nat.not_lt_zero _), fun i _ hi => ?_, ?_⟩ g7
      · exact (al.2.2.1 0 0).trans h3
      · rw [al.2.1, gI_sI, if_pos ⟨rfl, rfl, rfl⟩]; exact nI_0.symm
      · exact (al.2.2.1 23 1).trans e1
      · rcases Nat.lt_or_ge i n with q | q
        · exact g5 i (by omega)
        · exact g6 i q hi
      · rw [g4]; exact e5
    | succ i ih =>
      intro hi G' g1 g2 g3 g4 g5 g6 g7
      have hcp : 0 < cap := by omega
      have eB : kB κ ≤ e := by rcases e5 with ⟨g, -⟩ | ⟨-, g, -⟩; omega; exact g
      have eo : ow G e = some l := by rcases e5 with ⟨g, -⟩ | ⟨-, -, g⟩; omega; exact g
      refine X_iload_n 28 dJ2_clear_27 rfl rfl ?_
      refine X_iload_n 29 dJ2_clear_28 rfl rfl ?_
      refine X_icmp_ge 42 32 dJ2_clear_29 (by decide) rfl (fun c => absurd c (nI_ge (by omega) (by omega))) (fun _ => ?_)
      refine X_aload_n 33 dJ2_clear_32 rfl rfl ?_
      refine X_iload_n 34 dJ2_clear_33 rfl rfl ?_
      refine X_null 35 dJ2_clear_34 rfl ?_
      refine X_aastoreN (t := 103) (n - (i + 1)) 36 dJ2_clear_35 rfl eB g2 (by decide) rfl (by omega) ?_
      refine X_iinc3 39 dJ2_clear_36 rfl rfl (by decide) rfl ?_
      refine X_goto 27 dJ2_clear_39 (by decide) ?_
      have e9 : nI (n - (i + 1)) + Int32.ofInt 1 = nI (n - i) := by
        rw [show Int32.ofInt 1 = 1 by decide, nI_1]; congr 1; omega
      rw [e9]
      refine ih (by omega) _ (fun x hx => ?_) g2 g3 g4 (fun j hj => ?_) (fun j hj hk => ?_) (g7.ur (Wr.w (List.mem_singleton.mpr rfl) eo))
      · obtain ⟨k1, k2, k3, k4, k5, k6, k7⟩ := g1 x hx
        exact ⟨k1, k2, k3, k4, k5, k6, fun j => by rw [eR_uR, if_neg (fun q => hx q.1)]; exact k7 j⟩
      · rw [eR_uR]
        split
        · rfl
        · rename_i q
          exact g5 j (by have : j ≠ n - (i + 1) := fun z => q ⟨rfl, z⟩; omega)
      · rw [eR_uR, if_neg (by omega)]; exact g6 j hj hk
  have r0 := key n (Nat.le_refl _) (sI (sI G 23 0 l (gI G 23 0 l + 1)) 23 2 l 0) (fun x _ => agr.rf _ x) e2 e3 rfl (fun j hj => by omega) e6 (mA.si (Wr.w (List.mem_singleton.mpr rfl) h3))
  rw [Nat.sub_self, nI_0] at r0
  exact r0
set_option maxHeartbeats 400000 in
theorem al_toArray_ok {κ : Kx} {d a b : Nat} {G : Gt} {Φ : Option Value → Gt → Prop} {Ψ : String → Nat → Gt → Prop} {l n cap : Nat} {f : Nat → Nat} (h : AL κ G l n f cap) (ha : 1 ≤ a) (hb : n ≤ b) (k : ∀ o G', gT G o = 0 → kB κ ≤ o → gT G' o = 103 → gL G' o = n → (∀ i, i < n → eR G' o i = some (f i)) → ow G' o = none → Md [] G G' → Φ (some (.ref o)) G') : X κ (d + 3) mJ2_toArray 0 [some (.ref l)] [] G a b Φ Ψ := by
  obtain ⟨h1, h2, h3, h4, h5, h6, h7, e, e1, e2, e3, e4, e6, e5⟩ := id h
  refine X_aload_n 1 dJ2_toArray_0 rfl rfl ?_
  refine X_getR (t := 23) (k := 1) 4 dJ2_toArray_1 rfl rfl (by decide) (by decide) (Or.inl rfl) q181 rfl h1 e1 ?_
  refine X_aload_n 5 dJ2_toArray_4 rfl rfl ?_
  refine X_getI (t := 23) (k := 2) 8 dJ2_toArray_5 rfl rfl (by decide) (by decide) (Or.inl rfl) q184 rfl h1 ?_
  rw [h4]
  refine X_S2 (a1 := 1) (b1 := n) (a2 := (a - 1)) (b2 := (b - n)) 11 dJ2_toArray_8 rfl rfl mo_J15_copyOf_2 rfl q742 q743 rfl (Nat.le_of_ble_eq_true rfl) rfl (Nat.le_of_ble_eq_true rfl) (by omega) (by omega) ?_
  refine copyOf2_ok (Nat.le_refl _) (Nat.le_refl _) e2 rfl (by omega) (by omega) (fun i hi y hy => ?_) ?_
  · rw [e4 i (by omega)] at hy; cases hy; exact h7 i (by omega)
  intro o G1 h0_o hB_o md t1 l1 r1 r2 w1
  refine X_aret dJ2_toArray_11 rfl (Or.inr ⟨_, rfl⟩) ?_
  refine k o G1 h0_o hB_o t1 l1 (fun i hi => ?_) w1 md
  rw [r1 i (by omega)]; exact e4 i hi
def nca (cap m : Nat) : Nat := if m ≤ cap then cap else nc cap m
set_option maxHeartbeats 400000 in
theorem al_addAll_ok {κ : Kx} {d a b : Nat} {G : Gt} {Φ : Option Value → Gt → Prop} {Ψ : String → Nat → Gt → Prop} {l cap s m cs : Nat} {f g : Nat → Nat} (h : AL κ G l 0 f cap) (hs : AL κ G s m g cs) (hne : s ≠ l) (hm : m ≤ 50000) (wf : Wf G) (ha : 2 ≤ a) (hb : m + nca cap m ≤ b) (k : ∀ G', AL κ G' l m g (nca cap m) → AL κ G' s m g cs → Md [l] G G' → Φ (some (.int (b01 (¬ m = 0)))) G') : X κ (d + 4) mJ2_addAll 0 [some (.ref l), some (.ref s), none, none, none, none] [] G a b Φ Ψ := by
  refine X_aload_n 1 dJ2_addAll_0 rfl rfl ?_
  refine X_F0 (a1 := 1) (b1 := m) (a2 := (a - 1)) (b2 := (b - m)) (t := 23) (C := "java/util/ArrayList") 6 dJ2_addAll_1 rfl rfl mo_J2_toArray rfl q1994 q1998 q2000 q1996 q1995 q2001 q1999 q1997 (by decide) rfl rfl (by decide) hs.1 rfl (Nat.le_of_ble_eq_true rfl) rfl (Nat.le_of_ble_eq_true rfl) (by omega) (by omega) ?_
  refine al_toArray_ok hs (Nat.le_refl _) (Nat.le_refl _) ?_
  intro o G1 h0_o hB_o t1 l1 r1 w1 md
  have h9 := h.md md List.not_mem_nil
  have hs9 := hs.md md List.not_mem_nil
  have mA : Md [l] G (sI G1 23 0 l (gI G1 23 0 l + 1)) := md.s0.si (Wr.w (List.mem_singleton.mpr rfl) h.2.2.1)
  have hlo : l ≠ o := fun q => by have := h.1; rw [q, h0_o] at this; cases this
  refine X_astore2 7 dJ2_addAll_6 rfl (by decide) rfl ?_
  refine X_aload_n 8 dJ2_addAll_7 rfl rfl ?_
  refine X_dup 9 dJ2_addAll_8 rfl rfl ?_
  refine X_getI (t := 23) (k := 0) 12 dJ2_addAll_9 rfl rfl (by decide) (by decide) (Or.inr q187) q188 rfl h9.1 ?_
  refine X_iconst (v := 1) 13 dJ2_addAll_12 rfl (by decide) ?_
  refine X_iadd 14 dJ2_addAll_13 rfl ?_
  refine X_putI (t := 23) (k := 0) 17 dJ2_addAll_14 rfl rfl (by decide) (by decide) (Or.inr q187) q188 (Or.inl rfl) rfl rfl rfl h.2.1 h9.1 ?_
  have hA : AL κ (sI G1 23 0 l (gI G1 23 0 l + 1)) l 0 f cap := h9.mc
  obtain ⟨k1, k2, k3, k4, k5, k6, k7, e, e1, e2, e3, e4, e6, e5⟩ := id hA
  refine X_aload_n 18 dJ2_addAll_17 rfl rfl ?_
  refine X_alen (t := 103) 19 dJ2_addAll_18 rfl t1 (by decide) ?_
  rw [show gL (sI G1 23 0 l (gI G1 23 0 l + 1)) o = m from l1]
  refine X_istore3 20 dJ2_addAll_19 rfl (by decide) rfl ?_
  refine X_iload_n 21 dJ2_addAll_20 rfl rfl ?_
  refine X_if_ne 26 24 dJ2_addAll_21 (by decide) rfl (fun c_21 => ?_) (fun c_21 => ?_)
  · refine X_iload_n 27 dJ2_addAll_26 rfl rfl ?_
    refine X_aload_n 28 dJ2_addAll_27 rfl rfl ?_
    refine X_getR (t := 23) (k := 1) 31 dJ2_addAll_28 rfl rfl (by decide) (by decide) (Or.inl rfl) q181 rfl k1 e1 ?_
    refine X_dup 32 dJ2_addAll_31 rfl rfl ?_
    refine X_astorew4 34 dJ2_addAll_32 rfl (by decide) rfl ?_
    refine X_alen (t := 103) 35 dJ2_addAll_34 rfl e2 (by decide) ?_
    rw [e3]
    refine X_aload_n 36 dJ2_addAll_35 rfl rfl ?_
    refine X_getI (t := 23) (k := 2) 39 dJ2_addAll_36 rfl rfl (by decide) (by decide) (Or.inl rfl) q184 rfl k1 ?_
    rw [k4]
    refine X_dup 40 dJ2_addAll_39 rfl rfl ?_
    refine X_istorew5 42 dJ2_addAll_40 rfl (by decide) rfl ?_
    refine X_isub 43 dJ2_addAll_42 rfl ?_
    have hm0 : ¬ m = 0 := fun q => c_21 (by rw [q]; exact nI_0)
    rw [b01_t hm0] at k
    have e8 : nI cap - nI 0 = nI cap := by rw [nI_0]; exact Int32.sub_zero _
    rw [e8]
    have fin : ∀ (G2 : Gt) (e' A2 B2 : Nat), AL κ G2 l 0 f (nca cap m) → gR G2 23 1 l = some e' → Md [l] G1 G2 → X κ (d + 4) mJ2_addAll 56 [some (.ref l), some (.ref s), some (.ref o), some (.int (nI m)), some (.ref e'), some (.int (nI 0))] [] G2 A2 B2 Φ Ψ := by
      intro G2 e' A2 B2 hA2 he' md2
      obtain ⟨p1, p2, p3, p4, p5, p6, p7, e'', f1, f2, f3, f4, f6, f5⟩ := id hA2
      cases he'.symm.trans f1
      have hc0 : m ≤ nca cap m := by unfold nca nc; split <;> (try split) <;> omega
      have eB : kB κ ≤ e' := by rcases f5 with ⟨g, -⟩ | ⟨-, g, -⟩; omega; exact g
      have eo : ow G2 e' = some l := by rcases f5 with ⟨g, -⟩ | ⟨-, -, g⟩; omega; exact g
      have o1 : gT G1 o ≠ 0 := by rw [t1]; decide
      have ao := md2.a (a := o) o1 (fun y hy => by rw [w1]; exact fun q => by cases q)
      have hle : l ≠ e' := fun q => by rw [q, f2] at p1; cases p1
      refine X_aload_n 57 dJ2_addAll_56 rfl rfl ?_
      refine X_iconst (v := 0) 58 dJ2_addAll_57 rfl (by decide) ?_
      refine X_aload 60 dJ2_addAll_58 rfl rfl ?_
      refine X_iload 62 dJ2_addAll_60 rfl rfl ?_
      refine X_iload_n 63 dJ2_addAll_62 rfl rfl ?_
      refine X_copyR 0 0 m 66 dJ2_addAll_63 rfl q2003 q391 q390 q98 (ao.t.trans t1) f2 eB rfl rfl rfl (by rw [ao.l, l1]; omega) (by rw [f3]; omega) (fun i hi y hy => by
      rw [ao.er, Nat.zero_add, r1 i hi] at hy; cases hy
      obtain ⟨C, T, N, g0, g1, g2⟩ := hs.2.2.2.2.2.2.1 i hi
      have e8 := (md.s0.trans md2).k (a := g i) g0
      exact ⟨_, C, T, N, rfl, by rw [e8]; exact g0, by rw [e8]; exact g1, g2⟩) (Nat.le_of_ble_eq_true rfl) ?_
      refine X_aload_n 67 dJ2_addAll_66 rfl rfl ?_
      refine X_iload 69 dJ2_addAll_67 rfl rfl ?_
      refine X_iload_n 70 dJ2_addAll_69 rfl rfl ?_
      refine X_iadd 71 dJ2_addAll_70 rfl ?_
      rw [nI_add, Nat.zero_add]
      refine X_putI (t := 23) (k := 2) 74 dJ2_addAll_71 rfl rfl (by decide) (by decide) (Or.inl rfl) q184 (Or.inl rfl) rfl rfl rfl p2 p1 ?_
      refine X_iconst (v := 1) 75 dJ2_addAll_74 rfl (by decide) ?_
      refine X_zret dJ2_addAll_75 rfl rfl ?_
      have mm : Md [l] G2 (sI (wR G2 e' (va_cpy (eR G2 o) (eR G2 e') 0 0 m)) 23 2 l (nI m)) := ((Md.rf [l] G2).wr (Wr.w (List.mem_singleton.mpr rfl) eo)).si (Wr.w (List.mem_singleton.mpr rfl) p3)
      have mt : Md [l] G _ := (md.s0.trans md2).trans mm
      refine k _ ⟨p1, p2, p3, ?_, hc0, p6, fun i hi => ?_, e', f1, f2, f3, fun i hi => ?_, fun i hi hj => ?_, f5⟩ (hs.md mt (by simp only [List.mem_singleton]; exact hne)) mt
      · rw [gI_sI, if_pos ⟨rfl, rfl, rfl⟩]
      · rw [mt.k (hs.2.2.2.2.2.2.1 i hi).n]; exact hs.2.2.2.2.2.2.1 i hi
      · rw [eR_sI, eR_wR, if_pos rfl, va_cpy, if_pos ⟨Nat.zero_le _, by omega⟩, ao.er]
        rw [Nat.zero_add, Nat.sub_zero]; exact r1 i hi
      · rw [eR_sI, eR_wR, if_pos rfl, va_cpy, if_neg (by omega)]; exact f6 i (Nat.zero_le _) hj
    refine X_icmp_le 56 46 dJ2_addAll_43 (by decide) rfl (fun c_43 => ?_) (fun c_43 => ?_)
    · have hc : m ≤ cap := (nI_leI (by omega) (by omega)).mp c_43
      have e9 : nca cap m = cap := if_pos hc
      rw [e9] at fin
      exact fin _ e _ _ hA e1 ((Md.rf [l] G1).si (Wr.w (List.mem_singleton.mpr rfl) h9.2.2.1))
    · have hc : ¬ m ≤ cap := mt (nI_leI (by omega) (by omega)).mpr c_43
      have e9 : nca cap m = nc cap m := if_neg hc
      rw [e9] at fin hb
      refine X_aload_n 47 dJ2_addAll_46 rfl rfl ?_
      refine X_iload 49 dJ2_addAll_47 rfl rfl ?_
      refine X_iload_n 50 dJ2_addAll_49 rfl rfl ?_
      refine X_iadd 51 dJ2_addAll_50 rfl ?_
      rw [nI_add, Nat.zero_add]
      refine X_V1 (a1 := 1) (b1 := (nc cap m)) (a2 := (a - 1 - 1)) (b2 := (b - m - nc cap m)) 54 dJ2_addAll_51 rfl rfl mo_J2_grow_2 rfl q737 q739 qs4 rfl (RV.t (t := 23) k1 (by decide) rfl) rfl (Nat.le_of_ble_eq_true rfl) rfl (Nat.le_of_ble_eq_true rfl) (by omega) (by omega) ?_
      refine al_grow2_ok hA m rfl (by omega) (by omega) (Nat.le_refl _) (Nat.le_refl _) ?_
      intro e' G2 g1 g2 g3 g4
      refine X_astorew4 56 dJ2_addAll_54 rfl (by decide) rfl ?_
      exact fin G2 e' _ _ g1 g2 (((Md.rf [l] G1).si (Wr.w (List.mem_singleton.mpr rfl) h9.2.2.1)).trans g4)
  · refine X_iconst (v := 0) 25 dJ2_addAll_24 rfl (by decide) ?_
    refine X_zret dJ2_addAll_25 rfl rfl ?_
    have hm0 : m = 0 := by
      by_cases q : m = 0
      · exact q
      · exact absurd c_21 (fun z => nI_ne0 (by omega) (by omega) z)
    rw [b01_f (by omega)] at k
    have e9 : nca cap m = cap := by unfold nca; rw [if_pos (by omega)]
    rw [e9] at k
    exact k _ (by rw [hm0]; exact hA.cg (fun i hi => absurd hi (Nat.not_lt_zero _))) (hs.md mA (by simp only [List.mem_singleton]; exact hne)) mA

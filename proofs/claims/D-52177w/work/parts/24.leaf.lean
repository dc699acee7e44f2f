set_option maxRecDepth 100000
/-! ===== own leaves: checks, planets, tape, aspects, alphabets ===== -/
def IAE : String := "java/lang/IllegalArgumentException"
def ISE : String := "java/lang/IllegalStateException"
def IOE : String := "java/lang/IndexOutOfBoundsException"
set_option maxHeartbeats 400000 in
theorem require_ok {κ : Kx} {d a b : Nat} {G : Gt} {Φ : Option Value → Gt → Prop} {Ψ : String → Nat → Gt → Prop} {x : Int32} (ha : 1 ≤ a) (hb : 6 ≤ b) (k : ¬ x = 0 → Φ none G) (kx : x = 0 → ∀ q, Ψ IAE q G) : X κ (d + 6) mX1_require 0 [some (.int x)] [] G a b Φ Ψ := by
  refine X_iload_n 1 dX1_require_0 rfl rfl ?_
  refine X_if_ne 12 4 dX1_require_1 (by decide) rfl (fun c_1 => ?_) (fun c_1 => ?_)
  · refine X_vret dX1_require_12 rfl ?_
    exact k c_1
  · refine X_throw0 (names := ["java/lang/RuntimeException", "java/lang/Exception"]) dX1_require_4 dX1_require_7 dX1_require_8 dX1_require_11 rfl q2539 q89 th_IAE (by decide +kernel) (by decide +kernel) ⟨by decide +kernel, by decide +kernel⟩ (by show 5 < _; omega) (by show _ + (13 * 3 + 42) ≤ _; simp only [List.map_nil, List.sum_nil]; omega) ha hb (fun q => ?_)
    exact kx (by first | exact c_1 | exact Decidable.not_not.mp c_1) q
set_option maxHeartbeats 400000 in
theorem requireState_ok {κ : Kx} {d a b : Nat} {G : Gt} {Φ : Option Value → Gt → Prop} {Ψ : String → Nat → Gt → Prop} {x : Int32} (ha : 1 ≤ a) (hb : 6 ≤ b) (k : ¬ x = 0 → Φ none G) (kx : x = 0 → ∀ q, Ψ ISE q G) : X κ (d + 6) mX1_requireState 0 [some (.int x)] [] G a b Φ Ψ := by
  refine X_iload_n 1 dX1_requireState_0 rfl rfl ?_
  refine X_if_ne 12 4 dX1_requireState_1 (by decide) rfl (fun c_1 => ?_) (fun c_1 => ?_)
  · refine X_vret dX1_requireState_12 rfl ?_
    exact k c_1
  · refine X_throw0 (names := ["java/lang/RuntimeException", "java/lang/Exception"]) dX1_requireState_4 dX1_requireState_7 dX1_requireState_8 dX1_requireState_11 rfl q2506 q88 th_ISE (by decide +kernel) (by decide +kernel) ⟨by decide +kernel, by decide +kernel⟩ (by show 5 < _; omega) (by show _ + (13 * 3 + 42) ≤ _; simp only [List.map_nil, List.sum_nil]; omega) ha hb (fun q => ?_)
    exact kx (by first | exact c_1 | exact Decidable.not_not.mp c_1) q
set_option maxHeartbeats 400000 in
theorem requireIndex_ok {κ : Kx} {d a b : Nat} {G : Gt} {Φ : Option Value → Gt → Prop} {Ψ : String → Nat → Gt → Prop} {x y : Int32} (ha : 1 ≤ a) (hb : 6 ≤ b) (k : 0 ≤ x → x < y → Φ none G) (kx : (x < 0 ∨ y ≤ x) → ∀ q, Ψ IOE q G) : X κ (d + 6) mX1_requireIndex 0 [some (.int x), some (.int y)] [] G a b Φ Ψ := by
  refine X_iload_n 1 dX1_requireIndex_0 rfl rfl ?_
  refine X_if_lt 9 4 dX1_requireIndex_1 (by decide) rfl (fun c_1 => ?_) (fun c_1 => ?_)
  · refine X_throw0 (names := ["java/lang/RuntimeException", "java/lang/Exception"]) dX1_requireIndex_9 dX1_requireIndex_12 dX1_requireIndex_13 dX1_requireIndex_16 rfl q2460 q132 th_IOE (by decide +kernel) (by decide +kernel) ⟨by decide +kernel, by decide +kernel⟩ (by show 5 < _; omega) (by show _ + (13 * 3 + 42) ≤ _; simp only [List.map_nil, List.sum_nil]; omega) ha hb (fun q => ?_)
    first | exact kx (Or.inl c_1) q | exact kx (Or.inr (Int32.not_lt.mp c_6)) q
  · refine X_iload_n 5 dX1_requireIndex_4 rfl rfl ?_
    refine X_iload_n 6 dX1_requireIndex_5 rfl rfl ?_
    refine X_icmp_lt 17 9 dX1_requireIndex_6 (by decide) rfl (fun c_6 => ?_) (fun c_6 => ?_)
    · refine X_vret dX1_requireIndex_17 rfl ?_
      exact k (Int32.not_lt.mp c_1) c_6
    · refine X_throw0 (names := ["java/lang/RuntimeException", "java/lang/Exception"]) dX1_requireIndex_9 dX1_requireIndex_12 dX1_requireIndex_13 dX1_requireIndex_16 rfl q2460 q132 th_IOE (by decide +kernel) (by decide +kernel) ⟨by decide +kernel, by decide +kernel⟩ (by show 5 < _; omega) (by show _ + (13 * 3 + 42) ≤ _; simp only [List.map_nil, List.sum_nil]; omega) ha hb (fun q => ?_)
      first | exact kx (Or.inl c_1) q | exact kx (Or.inr (Int32.not_lt.mp c_6)) q
set_option maxHeartbeats 400000 in
theorem requireFrom_ok {κ : Kx} {d a b : Nat} {G : Gt} {Φ : Option Value → Gt → Prop} {Ψ : String → Nat → Gt → Prop} {x y z : Int32} (ha : 1 ≤ a) (hb : 6 ≤ b) (k : x ≤ z → z ≤ y → Φ none G) (kx : (z < x ∨ y < z) → ∀ q, Ψ IAE q G) : X κ (d + 7) mX1_requireFrom 0 [some (.int x), some (.int y), some (.int z)] [] G a b Φ Ψ := by
  refine X_iload_n 1 dX1_requireFrom_0 rfl rfl ?_
  refine X_iload_n 2 dX1_requireFrom_1 rfl rfl ?_
  refine X_icmp_lt 14 5 dX1_requireFrom_2 (by decide) rfl (fun c_2 => ?_) (fun c_2 => ?_)
  · refine X_iconst (v := 0) 15 dX1_requireFrom_14 rfl (by decide) ?_
    refine X_S1 (a1 := a) (b1 := b) (a2 := 0) (b2 := 0) 18 dX1_requireFrom_15 rfl rfl mo_X1_require rfl q2536 q2537 rfl (Nat.le_of_ble_eq_true rfl) rfl (Nat.le_of_ble_eq_true rfl) (by omega) (by omega) ?_
    refine require_ok ha hb (fun h => ?_) (fun h q => ?_)
    · refine X_vret dX1_requireFrom_18 rfl ?_
      first | exact k (Int32.not_lt.mp c_2) (Int32.not_lt.mp c_7) | exact absurd rfl h
    · first | exact kx (Or.inl c_2) q | exact kx (Or.inr c_7) q | exact absurd h (by decide)
  · refine X_iload_n 6 dX1_requireFrom_5 rfl rfl ?_
    refine X_iload_n 7 dX1_requireFrom_6 rfl rfl ?_
    refine X_icmp_gt 14 10 dX1_requireFrom_7 (by decide) rfl (fun c_7 => ?_) (fun c_7 => ?_)
    · refine X_iconst (v := 0) 15 dX1_requireFrom_14 rfl (by decide) ?_
      refine X_S1 (a1 := a) (b1 := b) (a2 := 0) (b2 := 0) 18 dX1_requireFrom_15 rfl rfl mo_X1_require rfl q2536 q2537 rfl (Nat.le_of_ble_eq_true rfl) rfl (Nat.le_of_ble_eq_true rfl) (by omega) (by omega) ?_
      refine require_ok ha hb (fun h => ?_) (fun h q => ?_)
      · refine X_vret dX1_requireFrom_18 rfl ?_
        first | exact k (Int32.not_lt.mp c_2) (Int32.not_lt.mp c_7) | exact absurd rfl h
      · first | exact kx (Or.inl c_2) q | exact kx (Or.inr c_7) q | exact absurd h (by decide)
    · refine X_iconst (v := 1) 11 dX1_requireFrom_10 rfl (by decide) ?_
      refine X_goto 15 dX1_requireFrom_11 (by decide) ?_
      refine X_S1 (a1 := a) (b1 := b) (a2 := 0) (b2 := 0) 18 dX1_requireFrom_15 rfl rfl mo_X1_require rfl q2536 q2537 rfl (Nat.le_of_ble_eq_true rfl) rfl (Nat.le_of_ble_eq_true rfl) (by omega) (by omega) ?_
      refine require_ok ha hb (fun h => ?_) (fun h q => ?_)
      · refine X_vret dX1_requireFrom_18 rfl ?_
        first | exact k (Int32.not_lt.mp c_2) (Int32.not_lt.mp c_7) | exact absurd rfl h
      · first | exact kx (Or.inl c_2) q | exact kx (Or.inr c_7) q | exact absurd h (by decide)
set_option maxHeartbeats 400000 in
theorem at_ok {κ : Kx} {d a b : Nat} {G : Gt} {Φ : Option Value → Gt → Prop} {Ψ : String → Nat → Gt → Prop} {l n cap : Nat} {x : Int32} {f : Nat → Nat} (h : AL κ G l n f cap) (ha : 1 ≤ a) (hb : 6 ≤ b) (k : ∀ i, i < n → x = nI i → Φ (some (.ref (f i))) G) (kx : (¬ ∃ i, i < n ∧ x = nI i) → ∀ q, Ψ IOE q G) : X κ (d + 7) mX1_at 0 [some (.ref l), some (.int x)] [] G a b Φ Ψ := by
  refine X_iload_n 1 dX1_at_0 rfl rfl ?_
  refine X_aload_n 2 dX1_at_1 rfl rfl ?_
  refine X_F0z (t := 23) (C := "java/util/ArrayList") 7 dX1_at_2 rfl rfl mo_J2_size rfl q2562 q2565 q310 q2564 q2563 q2567 q2566 q888 (by decide) rfl rfl (by decide) h.1 rfl (Nat.le_of_ble_eq_true rfl) rfl (Nat.le_of_ble_eq_true rfl) ?_
  refine al_size_ok h ?_
  have hn : n < 2147483648 := by have := h.2.2.2.2.1; have := h.2.2.2.2.2.1; omega
  refine X_S2 (a1 := a) (b1 := b) (a2 := 0) (b2 := 0) 10 dX1_at_7 rfl rfl mo_X1_requireIndex rfl q2457 q2458 rfl (Nat.le_of_ble_eq_true rfl) rfl (Nat.le_of_ble_eq_true rfl) (by omega) (by omega) ?_
  refine requireIndex_ok ha hb (fun h1 h2 => ?_) (fun h1 q => ?_)
  · obtain ⟨i, hi, rfl⟩ : ∃ i, i < n ∧ x = nI i := by
      obtain ⟨i, hi, rfl⟩ := nI_of (Int32.not_lt.mpr h1)
      exact ⟨i, (nI_ltI hi (by omega)).mp h2, rfl⟩
    refine X_aload_n 11 dX1_at_10 rfl rfl ?_
    refine X_iload_n 12 dX1_at_11 rfl rfl ?_
    refine X_F1z (t := 23) (C := "java/util/ArrayList") 17 dX1_at_12 rfl rfl mo_J2_get rfl q2569 q889 q891 q887 q886 q892 q890 q888 (by decide) rfl rfl (by decide) h.1 rfl (Nat.le_of_ble_eq_true rfl) rfl (Nat.le_of_ble_eq_true rfl) ?_
    refine al_get_ok h i rfl hi ?_
    refine X_aret dX1_at_17 rfl (Or.inl ⟨_, rfl⟩) ?_
    exact k i hi rfl
  · refine kx ?_ q
    rintro ⟨i, hi, rfl⟩
    rcases h1 with h1 | h1
    · exact nI_pos (by omega) h1
    · exact nI_ge hi (by omega) h1
set_option maxHeartbeats 400000 in
theorem pinit_ok {κ : Kx} {d a b : Nat} {G : Gt} {Φ : Option Value → Gt → Prop} {Ψ : String → Nat → Gt → Prop} {r : Nat} {x0 x1 x2 x3 x4 x5 : Int32} (ht : gT G r = 4) (hB : kB κ ≤ r) (k : Φ none (sI (sI (sI (sI (sI (sI (sI G 4 0 r x0) 4 1 r x1) 4 2 r x2) 4 3 r x3) 4 4 r x4) 4 5 r x5) 4 6 r x5)) : X κ (d + 1) mX11_init 0 [some (.ref r), some (.int x0), some (.int x1), some (.int x2), some (.int x3), some (.int x4), some (.int x5)] [] G a b Φ Ψ := by
  refine X_aload_n 1 dX11_init_0 rfl rfl ?_
  refine X_objInit 4 dX11_init_1 rfl q1660 q142 q143 (Nat.le_of_ble_eq_true rfl) ?_
  refine X_aload_n 5 dX11_init_4 rfl rfl ?_
  refine X_iload_n 6 dX11_init_5 rfl rfl ?_
  refine X_putI (t := 4) (k := 0) 9 dX11_init_6 rfl rfl (by decide) (by decide) (Or.inl rfl) q1665 (Or.inr ⟨rfl, rfl⟩) rfl rfl rfl (by assumption) ht ?_
  refine X_aload_n 10 dX11_init_9 rfl rfl ?_
  refine X_iload_n 11 dX11_init_10 rfl rfl ?_
  refine X_putI (t := 4) (k := 1) 14 dX11_init_11 rfl rfl (by decide) (by decide) (Or.inl rfl) q1666 (Or.inr ⟨rfl, rfl⟩) rfl rfl rfl (by assumption) (by first | assumption | (simp only [gT_sI, gT_sR, gT_wI, gT_wJ, gT_wR, gT_uI, gT_uJ, gT_uR, gT_nw] <;> assumption) | (simp [gT_sI, gT_sR, gT_wI, gT_wJ, gT_wR, gT_uI, gT_uJ, gT_uR, gT_nw, *]; done)) ?_
  refine X_aload_n 15 dX11_init_14 rfl rfl ?_
  refine X_iload_n 16 dX11_init_15 rfl rfl ?_
  refine X_putI (t := 4) (k := 2) 19 dX11_init_16 rfl rfl (by decide) (by decide) (Or.inl rfl) q1668 (Or.inr ⟨rfl, rfl⟩) rfl rfl rfl (by assumption) (by first | assumption | (simp only [gT_sI, gT_sR, gT_wI, gT_wJ, gT_wR, gT_uI, gT_uJ, gT_uR, gT_nw] <;> assumption) | (simp [gT_sI, gT_sR, gT_wI, gT_wJ, gT_wR, gT_uI, gT_uJ, gT_uR, gT_nw, *]; done)) ?_
  refine X_aload_n 20 dX11_init_19 rfl rfl ?_
  refine X_iload 22 dX11_init_20 rfl rfl ?_
  refine X_putI (t := 4) (k := 3) 25 dX11_init_22 rfl rfl (by decide) (by decide) (Or.inl rfl) q1669 (Or.inr ⟨rfl, rfl⟩) rfl rfl rfl (by assumption) ht ?_
  refine X_aload_n 26 dX11_init_25 rfl rfl ?_
  refine X_iload 28 dX11_init_26 rfl rfl ?_
  refine X_putI (t := 4) (k := 4) 31 dX11_init_28 rfl rfl (by decide) (by decide) (Or.inl rfl) q1670 (Or.inr ⟨rfl, rfl⟩) rfl rfl rfl (by assumption) ht ?_
  refine X_aload_n 32 dX11_init_31 rfl rfl ?_
  refine X_iload 34 dX11_init_32 rfl rfl ?_
  refine X_V1z 37 dX11_init_34 rfl rfl mo_X11_set rfl q1661 q1662 q1663 rfl (RV.t (t := 4) ht (by decide) rfl) rfl (Nat.le_of_ble_eq_true rfl) rfl (Nat.le_of_ble_eq_true rfl) ?_
  refine pset_ok ht hB ?_
  refine X_vret dX11_init_37 rfl ?_
  exact k
/-- the planet r has the numbers p k, k = 1 .. 7: rail, speed, retro, every, angle, before, lap -/
def PL (κ : Kx) (G : Gt) (sky r : Nat) (p : Nat → Int32) : Prop := gT G r = 4 ∧ kB κ ≤ r ∧ ow G r = some sky ∧ ∀ k, 1 ≤ k → k < 8 → gI G 4 k r = p k
theorem PL.md {κ : Kx} {S : List Nat} {G G' : Gt} {sky r : Nat} {p : Nat → Int32} (h : PL κ G sky r p) (m : Md S G G') (hl : sky ∉ S) : PL κ G' sky r p := by
  obtain ⟨h1, h2, h3, h4⟩ := h
  have a1 := m.a (a := r) (by rw [h1]; decide) (fun y hy e => hl (by rw [h3] at e; cases e; exact hy))
  exact ⟨a1.t.trans h1, h2, a1.o.trans h3, fun k g1 g2 => (a1.i (by decide)).trans (h4 k g1 g2)⟩
set_option maxHeartbeats 400000 in
theorem pcopy_ok {κ : Kx} {d a b : Nat} {G : Gt} {Φ : Option Value → Gt → Prop} {Ψ : String → Nat → Gt → Prop} {r sky sky' : Nat} {p : Nat → Int32} (h : PL κ G sky r p) (hs : gT G sky' ≠ 0) (ha : 1 ≤ a) (hb : 8 ≤ b) (k : ∀ o G', gT G o = 0 → PL κ G' sky' o p → Md [] G G' → Φ (some (.ref o)) G') : X κ (d + 2) mX11_copy 0 [some (.ref r), none] [] G a b Φ Ψ := by
  refine X_new (t := 4) (a' := (a - 1)) (b' := (b - 8)) 3 dX11_copy_0 rfl rfl (by decide) q2164 q1655 q115 (by omega) (by omega) (fun o h0_o hB_o => ?_)
  have hro : r ≠ o := fun q => by have := h.1; rw [q, h0_o] at this; cases this
  have t1 : gT (nw G o 4 0) r = 4 := by rw [gT_nw, if_neg hro]; exact h.1
  have e1 : ∀ k, 1 ≤ k → k < 8 → gI (nw G o 4 0) 4 k r = p k := fun k g1 g2 => by rw [gI_nw, if_neg hro]; exact h.2.2.2 k g1 g2
  have t2 : gT (nw G o 4 0) o = 4 := by rw [gT_nw, if_pos rfl]
  refine X_dup 4 dX11_copy_3 rfl rfl ?_
  refine X_aload_n 5 dX11_copy_4 rfl rfl ?_
  refine X_getI (t := 4) (k := 0) 8 dX11_copy_5 rfl rfl (by decide) (by decide) (Or.inl rfl) q1665 rfl t1 ?_
  refine X_aload_n 9 dX11_copy_8 rfl rfl ?_
  refine X_getI (t := 4) (k := 1) 12 dX11_copy_9 rfl rfl (by decide) (by decide) (Or.inl rfl) q1666 rfl t1 ?_
  rw [e1 1 (by omega) (by omega)]
  refine X_aload_n 13 dX11_copy_12 rfl rfl ?_
  refine X_getI (t := 4) (k := 2) 16 dX11_copy_13 rfl rfl (by decide) (by decide) (Or.inl rfl) q1668 rfl t1 ?_
  rw [e1 2 (by omega) (by omega)]
  refine X_aload_n 17 dX11_copy_16 rfl rfl ?_
  refine X_getI (t := 4) (k := 3) 20 dX11_copy_17 rfl rfl (by decide) (by decide) (Or.inl rfl) q1669 rfl t1 ?_
  rw [e1 3 (by omega) (by omega)]
  refine X_aload_n 21 dX11_copy_20 rfl rfl ?_
  refine X_getI (t := 4) (k := 4) 24 dX11_copy_21 rfl rfl (by decide) (by decide) (Or.inl rfl) q1670 rfl t1 ?_
  rw [e1 4 (by omega) (by omega)]
  refine X_aload_n 25 dX11_copy_24 rfl rfl ?_
  refine X_getI (t := 4) (k := 5) 28 dX11_copy_25 rfl rfl (by decide) (by decide) (Or.inl rfl) q1672 rfl t1 ?_
  rw [e1 5 (by omega) (by omega)]
  refine X_I6z 31 dX11_copy_28 rfl rfl mo_X11_init rfl rfl q2165 q1658 rfl rfl (Nat.le_of_ble_eq_true rfl) rfl (Nat.le_of_ble_eq_true rfl) ?_
  refine pinit_ok t2 hB_o ?_
  generalize hG1 : (sI (sI (sI (sI (sI (sI (sI (nw G o 4 0) 4 0 o _) 4 1 o _) 4 2 o _) 4 3 o _) 4 4 o _) 4 5 o _) 4 6 o _) = G1
  have f1 : ∀ k, gI G1 4 k r = gI (nw G o 4 0) 4 k r := fun k => by rw [← hG1]; simp only [gI_sI, hro, false_and, if_false]
  have f2 : gT G1 = gT (nw G o 4 0) := by rw [← hG1]; rfl
  have f3 : gI G1 4 1 o = p 1 ∧ gI G1 4 2 o = p 2 ∧ gI G1 4 3 o = p 3 ∧ gI G1 4 4 o = p 4 ∧ gI G1 4 5 o = p 5 := by rw [← hG1]; simp [gI_sI]
  have f4 : Md [] G G1 := by rw [← hG1]; exact (((((((((Md.rf [] G).nn h0_o).si (Wr.n h0_o)).si (Wr.n h0_o)).si (Wr.n h0_o)).si (Wr.n h0_o)).si (Wr.n h0_o)).si (Wr.n h0_o)).si (Wr.n h0_o))
  refine X_astore1 32 dX11_copy_31 rfl (by decide) rfl ?_
  refine X_aload_n 33 dX11_copy_32 rfl rfl ?_
  refine X_aload_n 34 dX11_copy_33 rfl rfl ?_
  refine X_getI (t := 4) (k := 6) 37 dX11_copy_34 rfl rfl (by decide) (by decide) (Or.inl rfl) q1676 rfl (by rw [f2]; exact t1) ?_
  rw [f1, e1 6 (by omega) (by omega)]
  refine X_putI (t := 4) (k := 6) 40 dX11_copy_37 rfl rfl (by decide) (by decide) (Or.inl rfl) q1676 (Or.inl rfl) rfl rfl rfl (by assumption) (by rw [f2]; exact t2) ?_
  refine X_aload_n 41 dX11_copy_40 rfl rfl ?_
  refine X_aload_n 42 dX11_copy_41 rfl rfl ?_
  refine X_getI (t := 4) (k := 7) 45 dX11_copy_42 rfl rfl (by decide) (by decide) (Or.inl rfl) q1679 rfl (by show gT G1 r = 4; rw [f2]; exact t1) ?_
  rw [gI_sI, if_neg (by simp), f1, e1 7 (by omega) (by omega)]
  refine X_putI (t := 4) (k := 7) 48 dX11_copy_45 rfl rfl (by decide) (by decide) (Or.inl rfl) q1679 (Or.inl rfl) rfl rfl rfl (by assumption) (by show gT G1 o = 4; rw [f2]; exact t2) ?_
  refine X_aload_n 49 dX11_copy_48 rfl rfl ?_
  refine X.gh (o := o) (w := some sky') hB_o ?_
  refine X_aret dX11_copy_49 rfl (Or.inl ⟨_, rfl⟩) ?_
  have hso : sky' ≠ o := fun q => hs (by rw [q]; exact h0_o)
  refine k o _ h0_o ⟨by show gT G1 o = 4; rw [f2]; exact t2, hB_o, by simp only [ow, so, gR_sR, and_self, if_true], fun k g1 g2 => ?_⟩ (((f4.si (Wr.n h0_o)).si (Wr.n h0_o)).gh (Wr.n h0_o) (by show gT G1 sky' ≠ 0; rw [f2, gT_nw, if_neg hso]; exact hs))
  show gI (sI (sI G1 4 6 o (p 6)) 4 7 o (p 7)) 4 k o = p k
  obtain ⟨y1, y2, y3, y4, y5⟩ := f3
  rcases (by omega : k = 1 ∨ k = 2 ∨ k = 3 ∨ k = 4 ∨ k = 5 ∨ k = 6 ∨ k = 7) with e | e | e | e | e | e | e <;> subst e <;> simp [gI_sI, *]
/-- whether a planet goes back on a day -/
def retB (p : Nat → Int32) (day : Int32) : Bool := decide (remI day (p 4) < p 3)
/-- the angle before it is brought within 0 .. 359 -/
def goA (p : Nat → Int32) (day : Int32) : Int32 := p 5 + (if retB p day = true then - p 2 else p 2)
/-- a planet after a day -/
def goP (p : Nat → Int32) (day : Int32) : Nat → Int32 := fun k => if k = 5 then fmod (goA p day) 360 else if k = 6 then p 5 else if k = 7 then p 7 + fdiv (goA p day) 360 else p k
theorem b01_0 {p : Prop} [Decidable p] : b01 p = 0 ↔ ¬ p := by
  by_cases h : p
  · rw [b01_t h]; exact ⟨fun q => absurd q (by decide), fun q => absurd h q⟩
  · rw [b01_f h]; exact ⟨fun _ => h, fun _ => rfl⟩
set_option maxHeartbeats 400000 in
theorem pRetro_ok {κ : Kx} {d a b : Nat} {G : Gt} {Φ : Option Value → Gt → Prop} {Ψ : String → Nat → Gt → Prop} {r sky : Nat} {p : Nat → Int32} {x : Int32} (h : PL κ G sky r p) (he : ¬ p 4 = 0) (k : Φ (some (.int (b01 (retB p x = true)))) G) : X κ d mX11_isRetro 0 [some (.ref r), some (.int x)] [] G a b Φ Ψ := by
  have e : b01 (remI x (gI G 4 4 r) < gI G 4 3 r) = b01 (retB p x = true) := by
    rw [h.2.2.2 3 (by omega) (by omega), h.2.2.2 4 (by omega) (by omega)]
    by_cases q : remI x (p 4) < p 3
    · rw [b01_t q, b01_t (by simpa [retB] using q)]
    · rw [b01_f q, b01_f (by simpa [retB] using q)]
  exact isRetro_ok h.1 (by rw [h.2.2.2 4 (by omega) (by omega)]; exact he) (e ▸ k)
set_option maxHeartbeats 400000 in
theorem pgo_ok {κ : Kx} {d a b : Nat} {G : Gt} {Φ : Option Value → Gt → Prop} {Ψ : String → Nat → Gt → Prop} {r sky : Nat} {p : Nat → Int32} {x : Int32} (h : PL κ G sky r p) (he : ¬ p 4 = 0) (k : ∀ G', PL κ G' sky r (goP p x) → (∀ q, q ≠ r → agr G' G q) → Md [sky] G G' → Φ none G') : X κ (d + 1) mX11_go 0 [some (.ref r), some (.int x)] [] G a b Φ Ψ := by
  obtain ⟨h1, h2, h3, hp⟩ := id h
  refine X_aload_n 1 dX11_go_0 rfl rfl ?_
  refine X_aload_n 2 dX11_go_1 rfl rfl ?_
  refine X_getI (t := 4) (k := 5) 5 dX11_go_2 rfl rfl (by decide) (by decide) (Or.inl rfl) q1672 rfl h1 ?_
  rw [hp 5 (by omega) (by omega)]
  refine X_putI (t := 4) (k := 6) 8 dX11_go_5 rfl rfl (by decide) (by decide) (Or.inl rfl) q1676 (Or.inl rfl) rfl rfl rfl h2 h1 ?_
  have h6 : PL κ (sI G 4 6 r (p 5)) sky r (fun k => if k = 6 then p 5 else p k) := ⟨h1, h2, h3, fun k g1 g2 => by
    rw [gI_sI]
    by_cases e : k = 6
    · subst e; simp
    · rw [if_neg (by simp [e])]; simp only [e, if_false]; exact hp k g1 g2⟩
  refine X_aload_n 9 dX11_go_8 rfl rfl ?_
  refine X_dup 10 dX11_go_9 rfl rfl ?_
  refine X_getI (t := 4) (k := 5) 13 dX11_go_10 rfl rfl (by decide) (by decide) (Or.inl rfl) q1672 rfl h1 ?_
  rw [h6.2.2.2 5 (by omega) (by omega)]
  refine X_aload_n 14 dX11_go_13 rfl rfl ?_
  refine X_iload_n 15 dX11_go_14 rfl rfl ?_
  refine X_V1z 18 dX11_go_15 rfl rfl mo_X11_isRetro rfl q2271 q2272 q2273 rfl (RV.t (t := 4) h1 (by decide) rfl) rfl (Nat.le_of_ble_eq_true rfl) rfl (Nat.le_of_ble_eq_true rfl) ?_
  refine pRetro_ok h6 he ?_
  have fin : ∀ z, z = (if retB p x = true then - p 2 else p 2) → X κ (d + 1) mX11_go 33 [some (.ref r), some (.int x)] [.int z, .int (p 5), .ref r] (sI G 4 6 r (p 5)) a b Φ Ψ := by
    intro z hz
    refine X_iadd 34 dX11_go_33 rfl ?_
    have ez : p 5 + z = goA p x := by rw [hz]; rfl
    rw [ez]
    refine X_putI (t := 4) (k := 5) 37 dX11_go_34 rfl rfl (by decide) (by decide) (Or.inl rfl) q1672 (Or.inl rfl) rfl rfl rfl h2 h1 ?_
    refine X_aload_n 38 dX11_go_37 rfl rfl ?_
    refine X_dup 39 dX11_go_38 rfl rfl ?_
    refine X_getI (t := 4) (k := 7) 42 dX11_go_39 rfl rfl (by decide) (by decide) (Or.inl rfl) q1679 rfl h1 ?_
    rw [gI_sI, if_neg (by simp), h6.2.2.2 7 (by omega) (by omega)]
    refine X_aload_n 43 dX11_go_42 rfl rfl ?_
    refine X_getI (t := 4) (k := 5) 46 dX11_go_43 rfl rfl (by decide) (by decide) (Or.inl rfl) q1672 rfl h1 ?_
    rw [gI_sI, if_pos ⟨rfl, rfl, rfl⟩]
    refine X_sipush (v := 360) 49 dX11_go_46 rfl (by decide) ?_
    refine X_S2z 52 dX11_go_49 rfl rfl mo_J14_floorDiv rfl q2275 q2276 rfl (Nat.le_of_ble_eq_true rfl) rfl (Nat.le_of_ble_eq_true rfl) ?_
    refine floorDiv_ok (by decide) ?_
    refine X_iadd 53 dX11_go_52 rfl ?_
    refine X_putI (t := 4) (k := 7) 56 dX11_go_53 rfl rfl (by decide) (by decide) (Or.inl rfl) q1679 (Or.inl rfl) rfl rfl rfl h2 h1 ?_
    refine X_aload_n 57 dX11_go_56 rfl rfl ?_
    refine X_aload_n 58 dX11_go_57 rfl rfl ?_
    refine X_getI (t := 4) (k := 5) 61 dX11_go_58 rfl rfl (by decide) (by decide) (Or.inl rfl) q1672 rfl h1 ?_
    rw [gI_sI, if_neg (by simp), gI_sI, if_pos ⟨rfl, rfl, rfl⟩]
    refine X_sipush (v := 360) 64 dX11_go_61 rfl (by decide) ?_
    refine X_S2z 67 dX11_go_64 rfl rfl mo_J14_floorMod rfl q2278 q2279 rfl (Nat.le_of_ble_eq_true rfl) rfl (Nat.le_of_ble_eq_true rfl) ?_
    refine floorMod_ok (by decide) ?_
    refine X_putI (t := 4) (k := 5) 70 dX11_go_67 rfl rfl (by decide) (by decide) (Or.inl rfl) q1672 (Or.inl rfl) rfl rfl rfl h2 h1 ?_
    refine X_vret dX11_go_70 rfl ?_
    refine k _ ⟨h1, h2, h3, fun k g1 g2 => ?_⟩ (fun q hq => ⟨rfl, fun c i => by simp only [gI_sI, hq, false_and, if_false], fun _ _ => rfl, rfl, fun _ => rfl, fun _ => rfl, fun _ => rfl⟩) (((((Md.rf [sky] G).si (Wr.w (List.mem_singleton.mpr rfl) h3)).si (Wr.w (List.mem_singleton.mpr rfl) h3)).si (Wr.w (List.mem_singleton.mpr rfl) h3)).si (Wr.w (List.mem_singleton.mpr rfl) h3))
    have y := fun k g1 g2 => hp k g1 g2
    rcases (by omega : k = 1 ∨ k = 2 ∨ k = 3 ∨ k = 4 ∨ k = 5 ∨ k = 6 ∨ k = 7) with e | e | e | e | e | e | e <;> subst e <;> simp [gI_sI, goP, hp]
  refine X_if_eq 29 21 dX11_go_18 (by decide) rfl (fun c_18 => ?_) (fun c_18 => ?_)
  · refine X_aload_n 30 dX11_go_29 rfl rfl ?_
    refine X_getI (t := 4) (k := 2) 33 dX11_go_30 rfl rfl (by decide) (by decide) (Or.inl rfl) q1668 rfl h1 ?_
    rw [h6.2.2.2 2 (by omega) (by omega)]
    first
      | exact fin _ (if_neg (show ¬ retB p x = true from b01_0.mp c_18)).symm
      | exact fin _ (if_pos (show retB p x = true from Decidable.not_not.mp (mt b01_0.mpr c_18))).symm
  · refine X_aload_n 22 dX11_go_21 rfl rfl ?_
    refine X_getI (t := 4) (k := 2) 25 dX11_go_22 rfl rfl (by decide) (by decide) (Or.inl rfl) q1668 rfl h1 ?_
    rw [h6.2.2.2 2 (by omega) (by omega)]
    refine X_ineg 26 dX11_go_25 rfl ?_
    refine X_goto 33 dX11_go_26 (by decide) ?_
    first
      | exact fin _ (if_neg (show ¬ retB p x = true from b01_0.mp c_18)).symm
      | exact fin _ (if_pos (show retB p x = true from Decidable.not_not.mp (mt b01_0.mpr c_18))).symm
/-- what a planet answers -/
def pget (p : Nat → Int32) (day : Int32) (i : Nat) : Int32 := if i = 0 then p 1 else if i = 1 then p 2 else if i = 2 then p 5 else if i = 3 then p 7 else if i = 4 then p 3 else if i = 5 then p 4 else b01 (retB p day = true)
set_option maxHeartbeats 400000 in
theorem pget_ok {κ : Kx} {d a b : Nat} {G : Gt} {Φ : Option Value → Gt → Prop} {Ψ : String → Nat → Gt → Prop} {r sky : Nat} {p : Nat → Int32} {x y : Int32} (h : PL κ G sky r p) (he : ¬ p 4 = 0) (i : Nat) (hy : y = nI i) (hi : i < 7) (k : Φ (some (.int (pget p x i))) G) : X κ (d + 1) mX11_get 0 [some (.ref r), some (.int y), some (.int x)] [] G a b Φ Ψ := by
  obtain ⟨h1, h2, h3, hp⟩ := id h
  refine X_iload_n 1 dX11_get_0 rfl rfl ?_
  subst hy
  rcases (by omega : i = 0 ∨ i = 1 ∨ i = 2 ∨ i = 3 ∨ i = 4 ∨ i = 5 ∨ i = 6) with e | e | e | e | e | e | e <;> subst e
  · refine X_tableIn 40 dX11_get_1 (by decide) (by decide) rfl (by decide) ?_
    refine X_aload_n 41 dX11_get_40 rfl rfl ?_
    refine X_getI (t := 4) (k := 1) 44 dX11_get_41 rfl rfl (by decide) (by decide) (Or.inl rfl) q1666 rfl h1 ?_
    rw [hp 1 (by omega) (by omega)]
    refine X_iret dX11_get_44 rfl ?_
    exact k
  · refine X_tableIn 45 dX11_get_1 (by decide) (by decide) rfl (by decide) ?_
    refine X_aload_n 46 dX11_get_45 rfl rfl ?_
    refine X_getI (t := 4) (k := 2) 49 dX11_get_46 rfl rfl (by decide) (by decide) (Or.inl rfl) q1668 rfl h1 ?_
    rw [hp 2 (by omega) (by omega)]
    refine X_iret dX11_get_49 rfl ?_
    exact k
  · refine X_tableIn 50 dX11_get_1 (by decide) (by decide) rfl (by decide) ?_
    refine X_aload_n 51 dX11_get_50 rfl rfl ?_
    refine X_getI (t := 4) (k := 5) 54 dX11_get_51 rfl rfl (by decide) (by decide) (Or.inl rfl) q1672 rfl h1 ?_
    rw [hp 5 (by omega) (by omega)]
    refine X_iret dX11_get_54 rfl ?_
    exact k
  · refine X_tableIn 55 dX11_get_1 (by decide) (by decide) rfl (by decide) ?_
    refine X_aload_n 56 dX11_get_55 rfl rfl ?_
    refine X_getI (t := 4) (k := 7) 59 dX11_get_56 rfl rfl (by decide) (by decide) (Or.inl rfl) q1679 rfl h1 ?_
    rw [hp 7 (by omega) (by omega)]
    refine X_iret dX11_get_59 rfl ?_
    exact k
  · refine X_tableIn 60 dX11_get_1 (by decide) (by decide) rfl (by decide) ?_
    refine X_aload_n 61 dX11_get_60 rfl rfl ?_
    refine X_getI (t := 4) (k := 3) 64 dX11_get_61 rfl rfl (by decide) (by decide) (Or.inl rfl) q1669 rfl h1 ?_
    rw [hp 3 (by omega) (by omega)]
    refine X_iret dX11_get_64 rfl ?_
    exact k
  · refine X_tableIn 65 dX11_get_1 (by decide) (by decide) rfl (by decide) ?_
    refine X_aload_n 66 dX11_get_65 rfl rfl ?_
    refine X_getI (t := 4) (k := 4) 69 dX11_get_66 rfl rfl (by decide) (by decide) (Or.inl rfl) q1670 rfl h1 ?_
    rw [hp 4 (by omega) (by omega)]
    refine X_iret dX11_get_69 rfl ?_
    exact k
  · refine X_tableOut 70 dX11_get_1 (by decide) (by decide) ?_
    refine X_aload_n 71 dX11_get_70 rfl rfl ?_
    refine X_iload_n 72 dX11_get_71 rfl rfl ?_
    refine X_V1z 75 dX11_get_72 rfl rfl mo_X11_isRetro rfl q2271 q2272 q2273 rfl (RV.t (t := 4) h1 (by decide) rfl) rfl (Nat.le_of_ble_eq_true rfl) rfl (Nat.le_of_ble_eq_true rfl) ?_
    refine pRetro_ok h he ?_
    refine X_if_eq 82 78 dX11_get_75 (by decide) rfl (fun c_75 => ?_) (fun c_75 => ?_)
    · refine X_iconst (v := 0) 83 dX11_get_82 rfl (by decide) ?_
      refine X_iret dX11_get_83 rfl ?_
      first
        | (rw [show pget p x 6 = b01 (retB p x = true) from rfl, c_75] at k; exact k)
        | (rw [show pget p x 6 = b01 (retB p x = true) from rfl, b01_t (Decidable.not_not.mp (mt b01_0.mpr c_75))] at k; exact k)
    · refine X_iconst (v := 1) 79 dX11_get_78 rfl (by decide) ?_
      refine X_goto 83 dX11_get_79 (by decide) ?_
      refine X_iret dX11_get_83 rfl ?_
      first
        | (rw [show pget p x 6 = b01 (retB p x = true) from rfl, c_75] at k; exact k)
        | (rw [show pget p x 6 = b01 (retB p x = true) from rfl, b01_t (Decidable.not_not.mp (mt b01_0.mpr c_75))] at k; exact k)
def gp (x y : Int32) : Int32 := 180 - fmod (180 - x + y) 360
def ab (x : Int32) : Int32 := if 0 ≤ x then x else -x
/-- whether two planets stand to each other with a turn of t: angles now, angles before -/
def mt (x y x' y' t : Int32) : Bool := decide (gp x (y + t) = 0) || ((if 0 < gp x (y + t) then decide (gp x' (y' + t) < 0) else decide (0 < gp x' (y' + t))) && decide (ab (gp x (y + t)) + ab (gp x' (y' + t)) < 180))
def tn (j : Nat) : Int32 := if j = 6 then 0 else 180
set_option maxHeartbeats 400000 in
theorem agap_ok {κ : Kx} {d a b : Nat} {G : Gt} {Φ : Option Value → Gt → Prop} {Ψ : String → Nat → Gt → Prop} {x y : Int32} (k : Φ (some (.int (gp x y))) G) : X κ (d + 1) mX16_gap 0 [some (.int x), some (.int y)] [] G a b Φ Ψ := by
  refine X_sipush (v := 180) 3 dX16_gap_0 rfl (by decide) ?_
  refine X_sipush (v := 180) 6 dX16_gap_3 rfl (by decide) ?_
  refine X_iload_n 7 dX16_gap_6 rfl rfl ?_
  refine X_isub 8 dX16_gap_7 rfl ?_
  refine X_iload_n 9 dX16_gap_8 rfl rfl ?_
  refine X_iadd 10 dX16_gap_9 rfl ?_
  refine X_sipush (v := 360) 13 dX16_gap_10 rfl (by decide) ?_
  refine X_S2z 16 dX16_gap_13 rfl rfl mo_J14_floorMod rfl q2340 q2279 rfl (Nat.le_of_ble_eq_true rfl) rfl (Nat.le_of_ble_eq_true rfl) ?_
  refine floorMod_ok (by decide) ?_
  refine X_isub 17 dX16_gap_16 rfl ?_
  refine X_iret dX16_gap_17 rfl ?_
  exact k
set_option maxHeartbeats 400000 in
theorem aof_ok {κ : Kx} {d a b : Nat} {G : Gt} {Φ : Option Value → Gt → Prop} {Ψ : String → Nat → Gt → Prop} {x : Int32} (k : Φ (some (.ref (kC κ (if x = 0 then 6 else 7)))) G) : X κ d mX16_of 0 [some (.int x)] [] G a b Φ Ψ := by
  refine X_iload_n 1 dX16_of_0 rfl rfl ?_
  refine X_if_eq 10 4 dX16_of_1 (by decide) rfl (fun c_1 => ?_) (fun c_1 => ?_)
  · refine X_getsR 13 6 dX16_of_10 rfl rfl q1821 ?_
    refine X_aret dX16_of_13 rfl (Or.inl ⟨_, rfl⟩) ?_
    first | (rw [if_pos c_1] at k; exact k) | (rw [if_neg c_1] at k; exact k)
  · refine X_getsR 7 7 dX16_of_4 rfl rfl q1819 ?_
    refine X_goto 13 dX16_of_7 (by decide) ?_
    refine X_aret dX16_of_13 rfl (Or.inl ⟨_, rfl⟩) ?_
    first | (rw [if_pos c_1] at k; exact k) | (rw [if_neg c_1] at k; exact k)

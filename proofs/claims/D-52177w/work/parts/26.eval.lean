set_option maxRecDepth 100000
/-! ===== sums and tests over a sky ===== -/
abbrev mX25_of : XM := (RX25, yX25_of, cX25_of, 4, (some FieldType.int), none)
theorem mr_X25_of : MOkR mX25_of 3 := ⟨by decide +kernel, ⟨by decide +kernel, by decide +kernel, by decide +kernel⟩, by decide, q2322, rfl⟩
abbrev mX26_of : XM := (RX26, yX26_of, cX26_of, 4, (some FieldType.int), none)
theorem mr_X26_of : MOkR mX26_of 3 := ⟨by decide +kernel, ⟨by decide +kernel, by decide +kernel, by decide +kernel⟩, by decide, q2327, rfl⟩
abbrev mX27_of : XM := (RX27, yX27_of, cX27_of, 4, (some FieldType.int), none)
theorem mr_X27_of : MOkR mX27_of 3 := ⟨by decide +kernel, ⟨by decide +kernel, by decide +kernel, by decide +kernel⟩, by decide, q2318, rfl⟩
abbrev mX28_of : XM := (RX28, yX28_of, cX28_of, 4, (some FieldType.int), none)
theorem mr_X28_of : MOkR mX28_of 3 := ⟨by decide +kernel, ⟨by decide +kernel, by decide +kernel, by decide +kernel⟩, by decide, q2315, rfl⟩
abbrev mX29_turned : XM := (RX29, yX29_turned, cX29_turned, 1, (some FieldType.int), none)
theorem mr_X29_turned : MOkR mX29_turned 0 := ⟨by decide +kernel, ⟨by decide +kernel, by decide +kernel, by decide +kernel⟩, by decide, q2409, rfl⟩
abbrev mX30_turned : XM := (RX30, yX30_turned, cX30_turned, 1, (some FieldType.int), none)
theorem mr_X30_turned : MOkR mX30_turned 0 := ⟨by decide +kernel, ⟨by decide +kernel, by decide +kernel, by decide +kernel⟩, by decide, q2412, rfl⟩
abbrev mX31_join : XM := (RX31, yX31_join, cX31_join, 3, (some FieldType.int), none)
theorem mr_X31_join : MOkR mX31_join 2 := ⟨by decide +kernel, ⟨by decide +kernel, by decide +kernel, by decide +kernel⟩, by decide, q2355, rfl⟩
abbrev mX32_join : XM := (RX32, yX32_join, cX32_join, 3, (some FieldType.int), none)
theorem mr_X32_join : MOkR mX32_join 2 := ⟨by decide +kernel, ⟨by decide +kernel, by decide +kernel, by decide +kernel⟩, by decide, q2358, rfl⟩
abbrev mX33_join : XM := (RX33, yX33_join, cX33_join, 3, (some FieldType.int), none)
theorem mr_X33_join : MOkR mX33_join 2 := ⟨by decide +kernel, ⟨by decide +kernel, by decide +kernel, by decide +kernel⟩, by decide, q2361, rfl⟩
abbrev mX34_join : XM := (RX34, yX34_join, cX34_join, 3, (some FieldType.int), none)
theorem mr_X34_join : MOkR mX34_join 2 := ⟨by decide +kernel, ⟨by decide +kernel, by decide +kernel, by decide +kernel⟩, by decide, q2364, rfl⟩
abbrev mX35_join : XM := (RX35, yX35_join, cX35_join, 3, (some FieldType.int), none)
theorem mr_X35_join : MOkR mX35_join 2 := ⟨by decide +kernel, ⟨by decide +kernel, by decide +kernel, by decide +kernel⟩, by decide, q2367, rfl⟩
abbrev mX36_join : XM := (RX36, yX36_join, cX36_join, 3, (some FieldType.int), none)
theorem mr_X36_join : MOkR mX36_join 2 := ⟨by decide +kernel, ⟨by decide +kernel, by decide +kernel, by decide +kernel⟩, by decide, q2370, rfl⟩
abbrev mX37_join : XM := (RX37, yX37_join, cX37_join, 3, (some FieldType.int), none)
theorem mr_X37_join : MOkR mX37_join 2 := ⟨by decide +kernel, ⟨by decide +kernel, by decide +kernel, by decide +kernel⟩, by decide, q2374, rfl⟩
abbrev mX38_of : XM := (RX38, yX38_of, cX38_of, 4, (some FieldType.int), none)
theorem mr_X38_of : MOkR mX38_of 3 := ⟨by decide +kernel, ⟨by decide +kernel, by decide +kernel, by decide +kernel⟩, by decide, q2332, rfl⟩
/-- what sums and tests see of a sky: the day, the planets' numbers, how many planets, how many bytes are written, the bytes -/
abbrev Sv : Type := Int32 × (Nat → Nat → Int32) × Nat × Nat × (Nat → Int32)
def vD (v : Sv) : Int32 := v.1
def vP (v : Sv) : Nat → Nat → Int32 := v.2.1
def vN (v : Sv) : Nat := v.2.2.1
def vB (v : Sv) : Nat := v.2.2.2.1
def vF (v : Sv) : Nat → Int32 := v.2.2.2.2
/-- the sky, its planets and its paper -/
def SK (κ : Kx) (G : Gt) (sky l : Nat) (ps : Nat → Nat) (cap sb cs : Nat) (v : Sv) : Prop :=
  gT G sky = 3 ∧ kB κ ≤ sky ∧ ow G sky = some sky ∧ gI G 3 4 sky = vD v ∧ gR G 3 0 sky = some l ∧ AL κ G l (vN v) ps cap ∧ (∀ i, i < vN v → PL κ G sky (ps i) (vP v i)) ∧ (∀ i j, i < vN v → j < vN v → ps i = ps j → i = j) ∧ gR G 3 3 sky = some sb ∧ SB κ G sb (vB v) (vF v) cs ∧ ∀ i, i < vN v → ¬ vP v i 4 = 0
theorem SK.md {κ : Kx} {S : List Nat} {G G' : Gt} {sky l cap sb cs : Nat} {ps : Nat → Nat} {v : Sv} (h : SK κ G sky l ps cap sb cs v) (m : Md S G G') (h1 : sky ∉ S) (h2 : l ∉ S) (h3 : sb ∉ S) : SK κ G' sky l ps cap sb cs v := by
  obtain ⟨g1, g2, g3, g4, g5, g6, g7, g8, g9, g10, g11⟩ := h
  have a1 := m.a (a := sky) (by rw [g1]; decide) (fun y hy e => h1 (by rw [g3] at e; cases e; exact hy))
  exact ⟨a1.t.trans g1, g2, a1.o.trans g3, (a1.i (by decide)).trans g4, (a1.r 3 0).trans g5, g6.md m h2, fun i hi => (g7 i hi).md m h1, g8, (a1.r 3 3).trans g9, g10.md m h3, g11⟩
/-- what is asked of a sky -/
def ak (j a b : Nat) (v : Sv) : Int32 := if j = 0 then vD v else if j = 1 then nI (vB v) else if j = 2 then vP v a 5 else if j = 3 then vP v a 7 else gp (vP v a 5) (vP v b 5)
/-- how signs join -/
def jn (j : Nat) (x y : Int32) : Int32 := if j = 0 then x + y else if j = 1 then x - y else if j = 2 then x * y else if j = 3 then (if y = 0 then 0 else x / y) else if j = 4 then (if y = 0 then 0 else remI x y) else if j = 5 then (if y < x then y else x) else (if x < y then y else x)
set_option maxHeartbeats 400000 in
theorem what1_ok {κ : Kx} {d a b : Nat} {G : Gt} {Φ : Option Value → Gt → Prop} {Ψ : String → Nat → Gt → Prop} {sky l cap sb cs : Nat} {ps : Nat → Nat} {v : Sv} (h : SK κ G sky l ps cap sb cs v) {r : Nat} {x y : Int32} (k : Φ (some (.int (ak 0 0 0 v))) G) : X κ (d + 4) mX28_of 0 [some (.ref r), some (.ref sky), some (.int x), some (.int y)] [] G a b Φ Ψ := by
  obtain ⟨g1, g2, g3, g4, g5, g6, g7, g8, g9, g10, g11⟩ := id h
  refine X_aload_n 1 dX28_of_0 rfl rfl ?_
  refine X_gnI (t := 3) (k := 4) 4 dX28_of_1 rfl rfl (by decide) (by decide) q244 rfl g1 ?_
  rw [g4]
  refine X_iret dX28_of_4 rfl ?_
  exact k
set_option maxHeartbeats 400000 in
theorem what2_ok {κ : Kx} {d a b : Nat} {G : Gt} {Φ : Option Value → Gt → Prop} {Ψ : String → Nat → Gt → Prop} {sky l cap sb cs : Nat} {ps : Nat → Nat} {v : Sv} (h : SK κ G sky l ps cap sb cs v) {r : Nat} {x y : Int32} (k : Φ (some (.int (ak 1 0 0 v))) G) : X κ (d + 4) mX27_of 0 [some (.ref r), some (.ref sky), some (.int x), some (.int y)] [] G a b Φ Ψ := by
  obtain ⟨g1, g2, g3, g4, g5, g6, g7, g8, g9, g10, g11⟩ := id h
  refine X_aload_n 1 dX27_of_0 rfl rfl ?_
  refine X_gnR (t := 3) (k := 3) 4 dX27_of_1 rfl rfl (by decide) (by decide) q242 rfl g1 g9 ?_
  refine X_V0z 7 dX27_of_4 rfl rfl mo_J4_length rfl q2319 q467 q3186 rfl (RV.t (t := 28) g10.1 (by decide) rfl) rfl (Nat.le_of_ble_eq_true rfl) rfl (Nat.le_of_ble_eq_true rfl) ?_
  refine sb_length_ok g10 ?_
  refine X_iret dX27_of_7 rfl ?_
  exact k
set_option maxHeartbeats 400000 in
theorem what3_ok {κ : Kx} {d a b : Nat} {G : Gt} {Φ : Option Value → Gt → Prop} {Ψ : String → Nat → Gt → Prop} {sky l cap sb cs : Nat} {ps : Nat → Nat} {v : Sv} (h : SK κ G sky l ps cap sb cs v) {r : Nat} {x y : Int32} (i : Nat) (hi : i < vN v) (hx : x = nI i) (k : Φ (some (.int (ak 2 i 0 v))) G) : X κ (d + 4) mX25_of 0 [some (.ref r), some (.ref sky), some (.int x), some (.int y)] [] G a b Φ Ψ := by
  obtain ⟨g1, g2, g3, g4, g5, g6, g7, g8, g9, g10, g11⟩ := id h
  refine X_aload_n 1 dX25_of_0 rfl rfl ?_
  refine X_gnR (t := 3) (k := 0) 4 dX25_of_1 rfl rfl (by decide) (by decide) q230 rfl g1 g5 ?_
  refine X_iload_n 5 dX25_of_4 rfl rfl ?_
  refine X_V1z 8 dX25_of_5 rfl rfl mo_J2_get rfl q2323 q891 q3185 rfl (RV.t (t := 23) g6.1 (by decide) rfl) rfl (Nat.le_of_ble_eq_true rfl) rfl (Nat.le_of_ble_eq_true rfl) ?_
  refine al_get_ok g6 i hx hi ?_
  refine X_cast (t := 4) 11 dX25_of_8 rfl (g7 i hi).1 (by decide) rfl q2324 (Or.inl rfl) ?_
  refine X_gnI (t := 4) (k := 5) 14 dX25_of_11 rfl rfl (by decide) (by decide) q1671 rfl (g7 i hi).1 ?_
  rw [(g7 i hi).2.2.2 5 (by omega) (by omega)]
  refine X_iret dX25_of_14 rfl ?_
  exact k
set_option maxHeartbeats 400000 in
theorem what4_ok {κ : Kx} {d a b : Nat} {G : Gt} {Φ : Option Value → Gt → Prop} {Ψ : String → Nat → Gt → Prop} {sky l cap sb cs : Nat} {ps : Nat → Nat} {v : Sv} (h : SK κ G sky l ps cap sb cs v) {r : Nat} {x y : Int32} (i : Nat) (hi : i < vN v) (hx : x = nI i) (k : Φ (some (.int (ak 3 i 0 v))) G) : X κ (d + 4) mX26_of 0 [some (.ref r), some (.ref sky), some (.int x), some (.int y)] [] G a b Φ Ψ := by
  obtain ⟨g1, g2, g3, g4, g5, g6, g7, g8, g9, g10, g11⟩ := id h
  refine X_aload_n 1 dX26_of_0 rfl rfl ?_
  refine X_gnR (t := 3) (k := 0) 4 dX26_of_1 rfl rfl (by decide) (by decide) q231 rfl g1 g5 ?_
  refine X_iload_n 5 dX26_of_4 rfl rfl ?_
  refine X_V1z 8 dX26_of_5 rfl rfl mo_J2_get rfl q2328 q891 q3185 rfl (RV.t (t := 23) g6.1 (by decide) rfl) rfl (Nat.le_of_ble_eq_true rfl) rfl (Nat.le_of_ble_eq_true rfl) ?_
  refine al_get_ok g6 i hx hi ?_
  refine X_cast (t := 4) 11 dX26_of_8 rfl (g7 i hi).1 (by decide) rfl q2329 (Or.inl rfl) ?_
  refine X_gnI (t := 4) (k := 7) 14 dX26_of_11 rfl rfl (by decide) (by decide) q1678 rfl (g7 i hi).1 ?_
  rw [(g7 i hi).2.2.2 7 (by omega) (by omega)]
  refine X_iret dX26_of_14 rfl ?_
  exact k
set_option maxHeartbeats 400000 in
theorem skygap_ok {κ : Kx} {d a b : Nat} {G : Gt} {Φ : Option Value → Gt → Prop} {Ψ : String → Nat → Gt → Prop} {sky l cap sb cs : Nat} {ps : Nat → Nat} {v : Sv} (h : SK κ G sky l ps cap sb cs v) {x y : Int32} (i j : Nat) (hi : i < vN v) (hj : j < vN v) (hx : x = nI i) (hy : y = nI j) (k : Φ (some (.int (gp (vP v i 5) (vP v j 5)))) G) : X κ (d + 3) mX3_gap 0 [some (.ref sky), some (.int x), some (.int y)] [] G a b Φ Ψ := by
  obtain ⟨g1, g2, g3, g4, g5, g6, g7, g8, g9, g10, g11⟩ := id h
  refine X_aload_n 1 dX3_gap_0 rfl rfl ?_
  refine X_getR (t := 3) (k := 0) 4 dX3_gap_1 rfl rfl (by decide) (by decide) (Or.inl rfl) q228 rfl g1 g5 ?_
  refine X_iload_n 5 dX3_gap_4 rfl rfl ?_
  refine X_V1z 8 dX3_gap_5 rfl rfl mo_J2_get rfl q2266 q891 q3185 rfl (RV.t (t := 23) g6.1 (by decide) rfl) rfl (Nat.le_of_ble_eq_true rfl) rfl (Nat.le_of_ble_eq_true rfl) ?_
  refine al_get_ok g6 i hx hi ?_
  refine X_cast (t := 4) 11 dX3_gap_8 rfl (g7 i hi).1 (by decide) rfl q2159 (Or.inl rfl) ?_
  refine X_gnI (t := 4) (k := 5) 14 dX3_gap_11 rfl rfl (by decide) (by decide) q1673 rfl (g7 i hi).1 ?_
  rw [(g7 i hi).2.2.2 5 (by omega) (by omega)]
  refine X_aload_n 15 dX3_gap_14 rfl rfl ?_
  refine X_getR (t := 3) (k := 0) 18 dX3_gap_15 rfl rfl (by decide) (by decide) (Or.inl rfl) q228 rfl g1 g5 ?_
  refine X_iload_n 19 dX3_gap_18 rfl rfl ?_
  refine X_V1z 22 dX3_gap_19 rfl rfl mo_J2_get rfl q2266 q891 q3185 rfl (RV.t (t := 23) g6.1 (by decide) rfl) rfl (Nat.le_of_ble_eq_true rfl) rfl (Nat.le_of_ble_eq_true rfl) ?_
  refine al_get_ok g6 j hy hj ?_
  refine X_cast (t := 4) 25 dX3_gap_22 rfl (g7 j hj).1 (by decide) rfl q2159 (Or.inl rfl) ?_
  refine X_gnI (t := 4) (k := 5) 28 dX3_gap_25 rfl rfl (by decide) (by decide) q1673 rfl (g7 j hj).1 ?_
  rw [(g7 j hj).2.2.2 5 (by omega) (by omega)]
  refine X_S2z 31 dX3_gap_28 rfl rfl mo_X16_gap rfl q2337 q2338 rfl (Nat.le_of_ble_eq_true rfl) rfl (Nat.le_of_ble_eq_true rfl) ?_
  refine agap_ok ?_
  refine X_iret dX3_gap_31 rfl ?_
  exact k
set_option maxHeartbeats 400000 in
theorem what5_ok {κ : Kx} {d a b : Nat} {G : Gt} {Φ : Option Value → Gt → Prop} {Ψ : String → Nat → Gt → Prop} {sky l cap sb cs : Nat} {ps : Nat → Nat} {v : Sv} (h : SK κ G sky l ps cap sb cs v) {r : Nat} {x y : Int32} (i j : Nat) (hi : i < vN v) (hj : j < vN v) (hx : x = nI i) (hy : y = nI j) (k : Φ (some (.int (ak 4 i j v))) G) : X κ (d + 4) mX38_of 0 [some (.ref r), some (.ref sky), some (.int x), some (.int y)] [] G a b Φ Ψ := by
  refine X_aload_n 1 dX38_of_0 rfl rfl ?_
  refine X_iload_n 2 dX38_of_1 rfl rfl ?_
  refine X_iload_n 3 dX38_of_2 rfl rfl ?_
  refine X_V2z 6 dX38_of_3 rfl rfl mo_X3_gap rfl q2333 q2334 q2335 rfl (RV.t (t := 3) h.1 (by decide) rfl) rfl (Nat.le_of_ble_eq_true rfl) rfl (Nat.le_of_ble_eq_true rfl) ?_
  refine skygap_ok h i j hi hj hx hy ?_
  refine X_iret dX38_of_6 rfl ?_
  exact k
set_option maxHeartbeats 400000 in
theorem join0_ok {κ : Kx} {d a b : Nat} {G : Gt} {Φ : Option Value → Gt → Prop} {Ψ : String → Nat → Gt → Prop} {r : Nat} {x y : Int32} (k : Φ (some (.int (jn 0 x y))) G) : X κ (d + 1) mX31_join 0 [some (.ref r), some (.int x), some (.int y)] [] G a b Φ Ψ := by
  refine X_iload_n 1 dX31_join_0 rfl rfl ?_
  refine X_iload_n 2 dX31_join_1 rfl rfl ?_
  refine X_iadd 3 dX31_join_2 rfl ?_
  refine X_iret dX31_join_3 rfl ?_
  exact k
set_option maxHeartbeats 400000 in
theorem join1_ok {κ : Kx} {d a b : Nat} {G : Gt} {Φ : Option Value → Gt → Prop} {Ψ : String → Nat → Gt → Prop} {r : Nat} {x y : Int32} (k : Φ (some (.int (jn 1 x y))) G) : X κ (d + 1) mX32_join 0 [some (.ref r), some (.int x), some (.int y)] [] G a b Φ Ψ := by
  refine X_iload_n 1 dX32_join_0 rfl rfl ?_
  refine X_iload_n 2 dX32_join_1 rfl rfl ?_
  refine X_isub 3 dX32_join_2 rfl ?_
  refine X_iret dX32_join_3 rfl ?_
  exact k
set_option maxHeartbeats 400000 in
theorem join2_ok {κ : Kx} {d a b : Nat} {G : Gt} {Φ : Option Value → Gt → Prop} {Ψ : String → Nat → Gt → Prop} {r : Nat} {x y : Int32} (k : Φ (some (.int (jn 2 x y))) G) : X κ (d + 1) mX33_join 0 [some (.ref r), some (.int x), some (.int y)] [] G a b Φ Ψ := by
  refine X_iload_n 1 dX33_join_0 rfl rfl ?_
  refine X_iload_n 2 dX33_join_1 rfl rfl ?_
  refine X_imul 3 dX33_join_2 rfl ?_
  refine X_iret dX33_join_3 rfl ?_
  exact k
set_option maxHeartbeats 400000 in
theorem join3_ok {κ : Kx} {d a b : Nat} {G : Gt} {Φ : Option Value → Gt → Prop} {Ψ : String → Nat → Gt → Prop} {r : Nat} {x y : Int32} (k : Φ (some (.int (jn 3 x y))) G) : X κ (d + 1) mX34_join 0 [some (.ref r), some (.int x), some (.int y)] [] G a b Φ Ψ := by
  refine X_iload_n 1 dX34_join_0 rfl rfl ?_
  refine X_if_ne 8 4 dX34_join_1 (by decide) rfl (fun c_1 => ?_) (fun c_1 => ?_)
  · refine X_iload_n 9 dX34_join_8 rfl rfl ?_
    refine X_iload_n 10 dX34_join_9 rfl rfl ?_
    refine X_idiv 11 dX34_join_10 rfl c_1 ?_
    refine X_iret dX34_join_11 rfl ?_
    rw [show jn 3 x y = (if y = 0 then 0 else x / y) from rfl] at k
    first
      | (rw [if_pos (by first | exact c_1 | exact Decidable.not_not.mp c_1)] at k; exact k)
      | (rw [if_neg c_1] at k; exact k)
  · refine X_iconst (v := 0) 5 dX34_join_4 rfl (by decide) ?_
    refine X_goto 11 dX34_join_5 (by decide) ?_
    refine X_iret dX34_join_11 rfl ?_
    rw [show jn 3 x y = (if y = 0 then 0 else x / y) from rfl] at k
    first
      | (rw [if_pos (by first | exact c_1 | exact Decidable.not_not.mp c_1)] at k; exact k)
      | (rw [if_neg c_1] at k; exact k)
set_option maxHeartbeats 400000 in
theorem join4_ok {κ : Kx} {d a b : Nat} {G : Gt} {Φ : Option Value → Gt → Prop} {Ψ : String → Nat → Gt → Prop} {r : Nat} {x y : Int32} (k : Φ (some (.int (jn 4 x y))) G) : X κ (d + 1) mX35_join 0 [some (.ref r), some (.int x), some (.int y)] [] G a b Φ Ψ := by
  refine X_iload_n 1 dX35_join_0 rfl rfl ?_
  refine X_if_ne 8 4 dX35_join_1 (by decide) rfl (fun c_1 => ?_) (fun c_1 => ?_)
  · refine X_iload_n 9 dX35_join_8 rfl rfl ?_
    refine X_iload_n 10 dX35_join_9 rfl rfl ?_
    refine X_irem 11 dX35_join_10 rfl c_1 ?_
    refine X_iret dX35_join_11 rfl ?_
    rw [show jn 4 x y = (if y = 0 then 0 else remI x y) from rfl] at k
    first
      | (rw [if_pos (by first | exact c_1 | exact Decidable.not_not.mp c_1)] at k; exact k)
      | (rw [if_neg c_1] at k; exact k)
  · refine X_iconst (v := 0) 5 dX35_join_4 rfl (by decide) ?_
    refine X_goto 11 dX35_join_5 (by decide) ?_
    refine X_iret dX35_join_11 rfl ?_
    rw [show jn 4 x y = (if y = 0 then 0 else remI x y) from rfl] at k
    first
      | (rw [if_pos (by first | exact c_1 | exact Decidable.not_not.mp c_1)] at k; exact k)
      | (rw [if_neg c_1] at k; exact k)
set_option maxHeartbeats 400000 in
theorem join5_ok {κ : Kx} {d a b : Nat} {G : Gt} {Φ : Option Value → Gt → Prop} {Ψ : String → Nat → Gt → Prop} {r : Nat} {x y : Int32} (k : Φ (some (.int (jn 5 x y))) G) : X κ (d + 1) mX36_join 0 [some (.ref r), some (.int x), some (.int y)] [] G a b Φ Ψ := by
  refine X_iload_n 1 dX36_join_0 rfl rfl ?_
  refine X_iload_n 2 dX36_join_1 rfl rfl ?_
  refine X_S2z 5 dX36_join_2 rfl rfl mo_J14_min rfl q2371 q387 rfl (Nat.le_of_ble_eq_true rfl) rfl (Nat.le_of_ble_eq_true rfl) ?_
  refine min_ok ?_
  refine X_iret dX36_join_5 rfl ?_
  exact k
set_option maxHeartbeats 400000 in
theorem join6_ok {κ : Kx} {d a b : Nat} {G : Gt} {Φ : Option Value → Gt → Prop} {Ψ : String → Nat → Gt → Prop} {r : Nat} {x y : Int32} (k : Φ (some (.int (jn 6 x y))) G) : X κ (d + 1) mX37_join 0 [some (.ref r), some (.int x), some (.int y)] [] G a b Φ Ψ := by
  refine X_iload_n 1 dX37_join_0 rfl rfl ?_
  refine X_iload_n 2 dX37_join_1 rfl rfl ?_
  refine X_S2z 5 dX37_join_2 rfl rfl mo_J14_max rfl q2375 q369 rfl (Nat.le_of_ble_eq_true rfl) rfl (Nat.le_of_ble_eq_true rfl) ?_
  refine max_ok ?_
  refine X_iret dX37_join_5 rfl ?_
  exact k
set_option maxHeartbeats 400000 in
theorem turn1_ok {κ : Kx} {d a b : Nat} {G : Gt} {Φ : Option Value → Gt → Prop} {Ψ : String → Nat → Gt → Prop} {r : Nat} (k : Φ (some (.int (tn 6))) G) : X κ d mX29_turned 0 [some (.ref r)] [] G a b Φ Ψ := by
  refine X_iconst (v := 0) 1 dX29_turned_0 rfl (by decide) ?_
  refine X_iret dX29_turned_1 rfl ?_
  exact k
set_option maxHeartbeats 400000 in
theorem turn2_ok {κ : Kx} {d a b : Nat} {G : Gt} {Φ : Option Value → Gt → Prop} {Ψ : String → Nat → Gt → Prop} {r : Nat} (k : Φ (some (.int (tn 7))) G) : X κ d mX30_turned 0 [some (.ref r)] [] G a b Φ Ψ := by
  refine X_sipush (v := 180) 3 dX30_turned_0 rfl (by decide) ?_
  refine X_iret dX30_turned_3 rfl ?_
  exact k
set_option maxHeartbeats 400000 in
theorem is6_ok {κ : Kx} {d a b : Nat} {G : Gt} {Φ : Option Value → Gt → Prop} {Ψ : String → Nat → Gt → Prop} {p p' : Nat → Int32} {sk sk' r1 r2 : Nat} (h1 : PL κ G sk r1 p) (h2 : PL κ G sk' r2 p') (k : Φ (some (.int (b01 (mt (p 5) (p' 5) (p 6) (p' 6) (tn 6) = true)))) G) : X κ (d + 2) mX16_is 0 [some (.ref (kC κ 6)), some (.ref r1), some (.ref r2), none, none] [] G a b Φ Ψ := by
  refine X_aload_n 1 dX16_is_0 rfl rfl ?_
  refine X_gnI (t := 4) (k := 5) 4 dX16_is_1 rfl rfl (by decide) (by decide) q1674 rfl h1.1 ?_
  rw [h1.2.2.2 5 (by omega) (by omega)]
  refine X_aload_n 5 dX16_is_4 rfl rfl ?_
  refine X_gnI (t := 4) (k := 5) 8 dX16_is_5 rfl rfl (by decide) (by decide) q1674 rfl h2.1 ?_
  rw [h2.2.2.2 5 (by omega) (by omega)]
  refine X_aload_n 9 dX16_is_8 rfl rfl ?_
  refine X_callR (a1 := 0) (b1 := 0) (a2 := a) (b2 := b) (owner := "ShadowSpell$Aspect") (As := []) 12 dX16_is_9 rfl rfl mr_X29_turned rfl q2404 q2406 q2407 q2408 (Or.inr (Or.inl q2405)) (by decide) rfl (RV.c (i := 6) (by decide)) rfl rfl (Nat.le_of_ble_eq_true rfl) rfl (Nat.le_of_ble_eq_true rfl) (Nat.le_of_eq (Nat.zero_add _)) (Nat.le_of_eq (Nat.zero_add _)) ?_
  refine turn1_ok ?_
  refine X_iadd 13 dX16_is_12 rfl ?_
  refine X_S2z 16 dX16_is_13 rfl rfl mo_X16_gap rfl q2413 q2338 rfl (Nat.le_of_ble_eq_true rfl) rfl (Nat.le_of_ble_eq_true rfl) ?_
  refine agap_ok ?_
  generalize hx : gp (p 5) (p' 5 + tn 6) = X0
  refine X_istore3 17 dX16_is_16 rfl (by decide) rfl ?_
  refine X_iload_n 18 dX16_is_17 rfl rfl ?_
  refine X_if_ne 23 21 dX16_is_18 (by decide) rfl (fun c_18 => ?_) (fun c_18 => ?_)
  · refine X_aload_n 24 dX16_is_23 rfl rfl ?_
    refine X_gnI (t := 4) (k := 6) 27 dX16_is_24 rfl rfl (by decide) (by decide) q1677 rfl h1.1 ?_
    rw [h1.2.2.2 6 (by omega) (by omega)]
    refine X_aload_n 28 dX16_is_27 rfl rfl ?_
    refine X_gnI (t := 4) (k := 6) 31 dX16_is_28 rfl rfl (by decide) (by decide) q1677 rfl h2.1 ?_
    rw [h2.2.2.2 6 (by omega) (by omega)]
    refine X_aload_n 32 dX16_is_31 rfl rfl ?_
    refine X_callR (a1 := 0) (b1 := 0) (a2 := a) (b2 := b) (owner := "ShadowSpell$Aspect") (As := []) 35 dX16_is_32 rfl rfl mr_X29_turned rfl q2404 q2406 q2407 q2408 (Or.inr (Or.inl q2405)) (by decide) rfl (RV.c (i := 6) (by decide)) rfl rfl (Nat.le_of_ble_eq_true rfl) rfl (Nat.le_of_ble_eq_true rfl) (Nat.le_of_eq (Nat.zero_add _)) (Nat.le_of_eq (Nat.zero_add _)) ?_
    refine turn1_ok ?_
    refine X_iadd 36 dX16_is_35 rfl ?_
    refine X_S2z 39 dX16_is_36 rfl rfl mo_X16_gap rfl q2413 q2338 rfl (Nat.le_of_ble_eq_true rfl) rfl (Nat.le_of_ble_eq_true rfl) ?_
    refine agap_ok ?_
    generalize hy : gp (p 6) (p' 6 + tn 6) = Y0
    refine X_istorew4 41 dX16_is_39 rfl (by decide) rfl ?_
    refine X_iload_n 42 dX16_is_41 rfl rfl ?_
    refine X_if_le 53 45 dX16_is_42 (by decide) rfl (fun c_42 => ?_) (fun c_42 => ?_)
    · refine X_iload 55 dX16_is_53 rfl rfl ?_
      refine X_if_le 78 58 dX16_is_55 (by decide) rfl (fun c_55 => ?_) (fun c_55 => ?_)
      · refine X_iconst (v := 0) 79 dX16_is_78 rfl (by decide) ?_
        refine X_zret dX16_is_79 rfl rfl ?_
        have e : mt (p 5) (p' 5) (p 6) (p' 6) (tn 6) = ((if 0 < X0 then decide (Y0 < 0) else decide (0 < Y0)) && decide (ab X0 + ab Y0 < 180)) := by
          unfold mt; rw [hx, hy]; simp [c_18]
        rw [e] at k
        first
          | (rw [b01_f (by rw [if_neg (Int32.not_lt.mpr c_42), decide_eq_false (Int32.not_lt.mpr c_55)]; simp)] at k; exact k)
          | (have q : ((if 0 < X0 then decide (Y0 < 0) else decide (0 < Y0)) && decide (ab X0 + ab Y0 < 180)) = false := by (rw [if_pos (Int32.not_le.mp c_42), decide_eq_false (Int32.not_lt.mpr c_47)]; rfl)
             rw [q, b01_f (by decide)] at k; exact k)
          | (rw [b01_t (by simp_all [Int32.not_le, Int32.not_lt])] at k; exact k)
          | (rw [b01_f (by simp_all [Int32.not_le, Int32.not_lt])] at k; exact k)
      · refine X_iload_n 59 dX16_is_58 rfl rfl ?_
        refine X_S1z 62 dX16_is_59 rfl rfl mo_J14_abs rfl q2414 q2415 rfl (Nat.le_of_ble_eq_true rfl) rfl (Nat.le_of_ble_eq_true rfl) ?_
        refine abs_ok ?_
        rw [show (if 0 ≤ X0 then X0 else -X0) = ab X0 from rfl]
        refine X_iload 64 dX16_is_62 rfl rfl ?_
        refine X_S1z 67 dX16_is_64 rfl rfl mo_J14_abs rfl q2414 q2415 rfl (Nat.le_of_ble_eq_true rfl) rfl (Nat.le_of_ble_eq_true rfl) ?_
        refine abs_ok ?_
        rw [show (if 0 ≤ Y0 then Y0 else -Y0) = ab Y0 from rfl]
        refine X_iadd 68 dX16_is_67 rfl ?_
        refine X_sipush (v := 180) 71 dX16_is_68 rfl (by decide) ?_
        refine X_icmp_ge 78 74 dX16_is_71 (by decide) rfl (fun c_71 => ?_) (fun c_71 => ?_)
        · refine X_iconst (v := 0) 79 dX16_is_78 rfl (by decide) ?_
          refine X_zret dX16_is_79 rfl rfl ?_
          have e : mt (p 5) (p' 5) (p 6) (p' 6) (tn 6) = ((if 0 < X0 then decide (Y0 < 0) else decide (0 < Y0)) && decide (ab X0 + ab Y0 < 180)) := by
            unfold mt; rw [hx, hy]; simp [c_18]
          rw [e] at k
          first
            | (rw [b01_f (by rw [if_neg (Int32.not_lt.mpr c_42), decide_eq_false (Int32.not_lt.mpr c_55)]; simp)] at k; exact k)
            | (have q : ((if 0 < X0 then decide (Y0 < 0) else decide (0 < Y0)) && decide (ab X0 + ab Y0 < 180)) = false := by (rw [if_pos (Int32.not_le.mp c_42), decide_eq_false (Int32.not_lt.mpr c_47)]; rfl)
               rw [q, b01_f (by decide)] at k; exact k)
            | (rw [b01_t (by simp_all [Int32.not_le, Int32.not_lt])] at k; exact k)
            | (rw [b01_f (by simp_all [Int32.not_le, Int32.not_lt])] at k; exact k)
        · refine X_iconst (v := 1) 75 dX16_is_74 rfl (by decide) ?_
          refine X_goto 79 dX16_is_75 (by decide) ?_
          refine X_zret dX16_is_79 rfl rfl ?_
          have e : mt (p 5) (p' 5) (p 6) (p' 6) (tn 6) = ((if 0 < X0 then decide (Y0 < 0) else decide (0 < Y0)) && decide (ab X0 + ab Y0 < 180)) := by
            unfold mt; rw [hx, hy]; simp [c_18]
          rw [e] at k
          first
            | (rw [b01_f (by rw [if_neg (Int32.not_lt.mpr c_42), decide_eq_false (Int32.not_lt.mpr c_55)]; simp)] at k; exact k)
            | (have q : ((if 0 < X0 then decide (Y0 < 0) else decide (0 < Y0)) && decide (ab X0 + ab Y0 < 180)) = false := by (rw [if_pos (Int32.not_le.mp c_42), decide_eq_false (Int32.not_lt.mpr c_47)]; rfl)
               rw [q, b01_f (by decide)] at k; exact k)
            | (rw [b01_t (by simp_all [Int32.not_le, Int32.not_lt])] at k; exact k)
            | (rw [b01_f (by simp_all [Int32.not_le, Int32.not_lt])] at k; exact k)
    · refine X_iload 47 dX16_is_45 rfl rfl ?_
      refine X_if_ge 78 50 dX16_is_47 (by decide) rfl (fun c_47 => ?_) (fun c_47 => ?_)
      · refine X_iconst (v := 0) 79 dX16_is_78 rfl (by decide) ?_
        refine X_zret dX16_is_79 rfl rfl ?_
        have e : mt (p 5) (p' 5) (p 6) (p' 6) (tn 6) = ((if 0 < X0 then decide (Y0 < 0) else decide (0 < Y0)) && decide (ab X0 + ab Y0 < 180)) := by
          unfold mt; rw [hx, hy]; simp [c_18]
        rw [e] at k
        first
          | (rw [b01_f (by rw [if_neg (Int32.not_lt.mpr c_42), decide_eq_false (Int32.not_lt.mpr c_55)]; simp)] at k; exact k)
          | (have q : ((if 0 < X0 then decide (Y0 < 0) else decide (0 < Y0)) && decide (ab X0 + ab Y0 < 180)) = false := by (rw [if_pos (Int32.not_le.mp c_42), decide_eq_false (Int32.not_lt.mpr c_47)]; rfl)
             rw [q, b01_f (by decide)] at k; exact k)
          | (rw [b01_t (by simp_all [Int32.not_le, Int32.not_lt])] at k; exact k)
          | (rw [b01_f (by simp_all [Int32.not_le, Int32.not_lt])] at k; exact k)
      · refine X_goto 58 dX16_is_50 (by decide) ?_
        refine X_iload_n 59 dX16_is_58 rfl rfl ?_
        refine X_S1z 62 dX16_is_59 rfl rfl mo_J14_abs rfl q2414 q2415 rfl (Nat.le_of_ble_eq_true rfl) rfl (Nat.le_of_ble_eq_true rfl) ?_
        refine abs_ok ?_
        rw [show (if 0 ≤ X0 then X0 else -X0) = ab X0 from rfl]
        refine X_iload 64 dX16_is_62 rfl rfl ?_
        refine X_S1z 67 dX16_is_64 rfl rfl mo_J14_abs rfl q2414 q2415 rfl (Nat.le_of_ble_eq_true rfl) rfl (Nat.le_of_ble_eq_true rfl) ?_
        refine abs_ok ?_
        rw [show (if 0 ≤ Y0 then Y0 else -Y0) = ab Y0 from rfl]
        refine X_iadd 68 dX16_is_67 rfl ?_
        refine X_sipush (v := 180) 71 dX16_is_68 rfl (by decide) ?_
        refine X_icmp_ge 78 74 dX16_is_71 (by decide) rfl (fun c_71 => ?_) (fun c_71 => ?_)
        · refine X_iconst (v := 0) 79 dX16_is_78 rfl (by decide) ?_
          refine X_zret dX16_is_79 rfl rfl ?_
          have e : mt (p 5) (p' 5) (p 6) (p' 6) (tn 6) = ((if 0 < X0 then decide (Y0 < 0) else decide (0 < Y0)) && decide (ab X0 + ab Y0 < 180)) := by
            unfold mt; rw [hx, hy]; simp [c_18]
          rw [e] at k
          first
            | (rw [b01_f (by rw [if_neg (Int32.not_lt.mpr c_42), decide_eq_false (Int32.not_lt.mpr c_55)]; simp)] at k; exact k)
            | (have q : ((if 0 < X0 then decide (Y0 < 0) else decide (0 < Y0)) && decide (ab X0 + ab Y0 < 180)) = false := by (rw [if_pos (Int32.not_le.mp c_42), decide_eq_false (Int32.not_lt.mpr c_47)]; rfl)
               rw [q, b01_f (by decide)] at k; exact k)
            | (rw [b01_t (by simp_all [Int32.not_le, Int32.not_lt])] at k; exact k)
            | (rw [b01_f (by simp_all [Int32.not_le, Int32.not_lt])] at k; exact k)
        · refine X_iconst (v := 1) 75 dX16_is_74 rfl (by decide) ?_
          refine X_goto 79 dX16_is_75 (by decide) ?_
          refine X_zret dX16_is_79 rfl rfl ?_
          have e : mt (p 5) (p' 5) (p 6) (p' 6) (tn 6) = ((if 0 < X0 then decide (Y0 < 0) else decide (0 < Y0)) && decide (ab X0 + ab Y0 < 180)) := by
            unfold mt; rw [hx, hy]; simp [c_18]
          rw [e] at k
          first
            | (rw [b01_f (by rw [if_neg (Int32.not_lt.mpr c_42), decide_eq_false (Int32.not_lt.mpr c_55)]; simp)] at k; exact k)
            | (have q : ((if 0 < X0 then decide (Y0 < 0) else decide (0 < Y0)) && decide (ab X0 + ab Y0 < 180)) = false := by (rw [if_pos (Int32.not_le.mp c_42), decide_eq_false (Int32.not_lt.mpr c_47)]; rfl)
               rw [q, b01_f (by decide)] at k; exact k)
            | (rw [b01_t (by simp_all [Int32.not_le, Int32.not_lt])] at k; exact k)
            | (rw [b01_f (by simp_all [Int32.not_le, Int32.not_lt])] at k; exact k)
  · refine X_iconst (v := 1) 22 dX16_is_21 rfl (by decide) ?_
    refine X_zret dX16_is_22 rfl rfl ?_
    rw [b01_t (by unfold mt; rw [hx]; simp only [Bool.or_eq_true, decide_eq_true_eq]; left; first | exact c_18 | exact Decidable.not_not.mp c_18)] at k
    exact k
set_option maxHeartbeats 400000 in
theorem is7_ok {κ : Kx} {d a b : Nat} {G : Gt} {Φ : Option Value → Gt → Prop} {Ψ : String → Nat → Gt → Prop} {p p' : Nat → Int32} {sk sk' r1 r2 : Nat} (h1 : PL κ G sk r1 p) (h2 : PL κ G sk' r2 p') (k : Φ (some (.int (b01 (mt (p 5) (p' 5) (p 6) (p' 6) (tn 7) = true)))) G) : X κ (d + 2) mX16_is 0 [some (.ref (kC κ 7)), some (.ref r1), some (.ref r2), none, none] [] G a b Φ Ψ := by
  refine X_aload_n 1 dX16_is_0 rfl rfl ?_
  refine X_gnI (t := 4) (k := 5) 4 dX16_is_1 rfl rfl (by decide) (by decide) q1674 rfl h1.1 ?_
  rw [h1.2.2.2 5 (by omega) (by omega)]
  refine X_aload_n 5 dX16_is_4 rfl rfl ?_
  refine X_gnI (t := 4) (k := 5) 8 dX16_is_5 rfl rfl (by decide) (by decide) q1674 rfl h2.1 ?_
  rw [h2.2.2.2 5 (by omega) (by omega)]
  refine X_aload_n 9 dX16_is_8 rfl rfl ?_
  refine X_callR (a1 := 0) (b1 := 0) (a2 := a) (b2 := b) (owner := "ShadowSpell$Aspect") (As := []) 12 dX16_is_9 rfl rfl mr_X30_turned rfl q2404 q2406 q2410 q2411 (Or.inr (Or.inl q2405)) (by decide) rfl (RV.c (i := 7) (by decide)) rfl rfl (Nat.le_of_ble_eq_true rfl) rfl (Nat.le_of_ble_eq_true rfl) (Nat.le_of_eq (Nat.zero_add _)) (Nat.le_of_eq (Nat.zero_add _)) ?_
  refine turn2_ok ?_
  refine X_iadd 13 dX16_is_12 rfl ?_
  refine X_S2z 16 dX16_is_13 rfl rfl mo_X16_gap rfl q2413 q2338 rfl (Nat.le_of_ble_eq_true rfl) rfl (Nat.le_of_ble_eq_true rfl) ?_
  refine agap_ok ?_
  generalize hx : gp (p 5) (p' 5 + tn 7) = X0
  refine X_istore3 17 dX16_is_16 rfl (by decide) rfl ?_
  refine X_iload_n 18 dX16_is_17 rfl rfl ?_
  refine X_if_ne 23 21 dX16_is_18 (by decide) rfl (fun c_18 => ?_) (fun c_18 => ?_)
  · refine X_aload_n 24 dX16_is_23 rfl rfl ?_
    refine X_gnI (t := 4) (k := 6) 27 dX16_is_24 rfl rfl (by decide) (by decide) q1677 rfl h1.1 ?_
    rw [h1.2.2.2 6 (by omega) (by omega)]
    refine X_aload_n 28 dX16_is_27 rfl rfl ?_
    refine X_gnI (t := 4) (k := 6) 31 dX16_is_28 rfl rfl (by decide) (by decide) q1677 rfl h2.1 ?_
    rw [h2.2.2.2 6 (by omega) (by omega)]
    refine X_aload_n 32 dX16_is_31 rfl rfl ?_
    refine X_callR (a1 := 0) (b1 := 0) (a2 := a) (b2 := b) (owner := "ShadowSpell$Aspect") (As := []) 35 dX16_is_32 rfl rfl mr_X30_turned rfl q2404 q2406 q2410 q2411 (Or.inr (Or.inl q2405)) (by decide) rfl (RV.c (i := 7) (by decide)) rfl rfl (Nat.le_of_ble_eq_true rfl) rfl (Nat.le_of_ble_eq_true rfl) (Nat.le_of_eq (Nat.zero_add _)) (Nat.le_of_eq (Nat.zero_add _)) ?_
    refine turn2_ok ?_
    refine X_iadd 36 dX16_is_35 rfl ?_
    refine X_S2z 39 dX16_is_36 rfl rfl mo_X16_gap rfl q2413 q2338 rfl (Nat.le_of_ble_eq_true rfl) rfl (Nat.le_of_ble_eq_true rfl) ?_
    refine agap_ok ?_
    generalize hy : gp (p 6) (p' 6 + tn 7) = Y0
    refine X_istorew4 41 dX16_is_39 rfl (by decide) rfl ?_
    refine X_iload_n 42 dX16_is_41 rfl rfl ?_
    refine X_if_le 53 45 dX16_is_42 (by decide) rfl (fun c_42 => ?_) (fun c_42 => ?_)
    · refine X_iload 55 dX16_is_53 rfl rfl ?_
      refine X_if_le 78 58 dX16_is_55 (by decide) rfl (fun c_55 => ?_) (fun c_55 => ?_)
      · refine X_iconst (v := 0) 79 dX16_is_78 rfl (by decide) ?_
        refine X_zret dX16_is_79 rfl rfl ?_
        have e : mt (p 5) (p' 5) (p 6) (p' 6) (tn 7) = ((if 0 < X0 then decide (Y0 < 0) else decide (0 < Y0)) && decide (ab X0 + ab Y0 < 180)) := by
          unfold mt; rw [hx, hy]; simp [c_18]
        rw [e] at k
        first
          | (rw [b01_f (by rw [if_neg (Int32.not_lt.mpr c_42), decide_eq_false (Int32.not_lt.mpr c_55)]; simp)] at k; exact k)
          | (have q : ((if 0 < X0 then decide (Y0 < 0) else decide (0 < Y0)) && decide (ab X0 + ab Y0 < 180)) = false := by (rw [if_pos (Int32.not_le.mp c_42), decide_eq_false (Int32.not_lt.mpr c_47)]; rfl)
             rw [q, b01_f (by decide)] at k; exact k)
          | (rw [b01_t (by simp_all [Int32.not_le, Int32.not_lt])] at k; exact k)
          | (rw [b01_f (by simp_all [Int32.not_le, Int32.not_lt])] at k; exact k)
      · refine X_iload_n 59 dX16_is_58 rfl rfl ?_
        refine X_S1z 62 dX16_is_59 rfl rfl mo_J14_abs rfl q2414 q2415 rfl (Nat.le_of_ble_eq_true rfl) rfl (Nat.le_of_ble_eq_true rfl) ?_
        refine abs_ok ?_
        rw [show (if 0 ≤ X0 then X0 else -X0) = ab X0 from rfl]
        refine X_iload 64 dX16_is_62 rfl rfl ?_
        refine X_S1z 67 dX16_is_64 rfl rfl mo_J14_abs rfl q2414 q2415 rfl (Nat.le_of_ble_eq_true rfl) rfl (Nat.le_of_ble_eq_true rfl) ?_
        refine abs_ok ?_
        rw [show (if 0 ≤ Y0 then Y0 else -Y0) = ab Y0 from rfl]
        refine X_iadd 68 dX16_is_67 rfl ?_
        refine X_sipush (v := 180) 71 dX16_is_68 rfl (by decide) ?_
        refine X_icmp_ge 78 74 dX16_is_71 (by decide) rfl (fun c_71 => ?_) (fun c_71 => ?_)
        · refine X_iconst (v := 0) 79 dX16_is_78 rfl (by decide) ?_
          refine X_zret dX16_is_79 rfl rfl ?_
          have e : mt (p 5) (p' 5) (p 6) (p' 6) (tn 7) = ((if 0 < X0 then decide (Y0 < 0) else decide (0 < Y0)) && decide (ab X0 + ab Y0 < 180)) := by
            unfold mt; rw [hx, hy]; simp [c_18]
          rw [e] at k
          first
            | (rw [b01_f (by rw [if_neg (Int32.not_lt.mpr c_42), decide_eq_false (Int32.not_lt.mpr c_55)]; simp)] at k; exact k)
            | (have q : ((if 0 < X0 then decide (Y0 < 0) else decide (0 < Y0)) && decide (ab X0 + ab Y0 < 180)) = false := by (rw [if_pos (Int32.not_le.mp c_42), decide_eq_false (Int32.not_lt.mpr c_47)]; rfl)
               rw [q, b01_f (by decide)] at k; exact k)
            | (rw [b01_t (by simp_all [Int32.not_le, Int32.not_lt])] at k; exact k)
            | (rw [b01_f (by simp_all [Int32.not_le, Int32.not_lt])] at k; exact k)
        · refine X_iconst (v := 1) 75 dX16_is_74 rfl (by decide) ?_
          refine X_goto 79 dX16_is_75 (by decide) ?_
          refine X_zret dX16_is_79 rfl rfl ?_
          have e : mt (p 5) (p' 5) (p 6) (p' 6) (tn 7) = ((if 0 < X0 then decide (Y0 < 0) else decide (0 < Y0)) && decide (ab X0 + ab Y0 < 180)) := by
            unfold mt; rw [hx, hy]; simp [c_18]
          rw [e] at k
          first
            | (rw [b01_f (by rw [if_neg (Int32.not_lt.mpr c_42), decide_eq_false (Int32.not_lt.mpr c_55)]; simp)] at k; exact k)
            | (have q : ((if 0 < X0 then decide (Y0 < 0) else decide (0 < Y0)) && decide (ab X0 + ab Y0 < 180)) = false := by (rw [if_pos (Int32.not_le.mp c_42), decide_eq_false (Int32.not_lt.mpr c_47)]; rfl)
               rw [q, b01_f (by decide)] at k; exact k)
            | (rw [b01_t (by simp_all [Int32.not_le, Int32.not_lt])] at k; exact k)
            | (rw [b01_f (by simp_all [Int32.not_le, Int32.not_lt])] at k; exact k)
    · refine X_iload 47 dX16_is_45 rfl rfl ?_
      refine X_if_ge 78 50 dX16_is_47 (by decide) rfl (fun c_47 => ?_) (fun c_47 => ?_)
      · refine X_iconst (v := 0) 79 dX16_is_78 rfl (by decide) ?_
        refine X_zret dX16_is_79 rfl rfl ?_
        have e : mt (p 5) (p' 5) (p 6) (p' 6) (tn 7) = ((if 0 < X0 then decide (Y0 < 0) else decide (0 < Y0)) && decide (ab X0 + ab Y0 < 180)) := by
          unfold mt; rw [hx, hy]; simp [c_18]
        rw [e] at k
        first
          | (rw [b01_f (by rw [if_neg (Int32.not_lt.mpr c_42), decide_eq_false (Int32.not_lt.mpr c_55)]; simp)] at k; exact k)
          | (have q : ((if 0 < X0 then decide (Y0 < 0) else decide (0 < Y0)) && decide (ab X0 + ab Y0 < 180)) = false := by (rw [if_pos (Int32.not_le.mp c_42), decide_eq_false (Int32.not_lt.mpr c_47)]; rfl)
             rw [q, b01_f (by decide)] at k; exact k)
          | (rw [b01_t (by simp_all [Int32.not_le, Int32.not_lt])] at k; exact k)
          | (rw [b01_f (by simp_all [Int32.not_le, Int32.not_lt])] at k; exact k)
      · refine X_goto 58 dX16_is_50 (by decide) ?_
        refine X_iload_n 59 dX16_is_58 rfl rfl ?_
        refine X_S1z 62 dX16_is_59 rfl rfl mo_J14_abs rfl q2414 q2415 rfl (Nat.le_of_ble_eq_true rfl) rfl (Nat.le_of_ble_eq_true rfl) ?_
        refine abs_ok ?_
        rw [show (if 0 ≤ X0 then X0 else -X0) = ab X0 from rfl]
        refine X_iload 64 dX16_is_62 rfl rfl ?_
        refine X_S1z 67 dX16_is_64 rfl rfl mo_J14_abs rfl q2414 q2415 rfl (Nat.le_of_ble_eq_true rfl) rfl (Nat.le_of_ble_eq_true rfl) ?_
        refine abs_ok ?_
        rw [show (if 0 ≤ Y0 then Y0 else -Y0) = ab Y0 from rfl]
        refine X_iadd 68 dX16_is_67 rfl ?_
        refine X_sipush (v := 180) 71 dX16_is_68 rfl (by decide) ?_
        refine X_icmp_ge 78 74 dX16_is_71 (by decide) rfl (fun c_71 => ?_) (fun c_71 => ?_)
        · refine X_iconst (v := 0) 79 dX16_is_78 rfl (by decide) ?_
          refine X_zret dX16_is_79 rfl rfl ?_
          have e : mt (p 5) (p' 5) (p 6) (p' 6) (tn 7) = ((if 0 < X0 then decide (Y0 < 0) else decide (0 < Y0)) && decide (ab X0 + ab Y0 < 180)) := by
            unfold mt; rw [hx, hy]; simp [c_18]
          rw [e] at k
          first
            | (rw [b01_f (by rw [if_neg (Int32.not_lt.mpr c_42), decide_eq_false (Int32.not_lt.mpr c_55)]; simp)] at k; exact k)
            | (have q : ((if 0 < X0 then decide (Y0 < 0) else decide (0 < Y0)) && decide (ab X0 + ab Y0 < 180)) = false := by (rw [if_pos (Int32.not_le.mp c_42), decide_eq_false (Int32.not_lt.mpr c_47)]; rfl)
               rw [q, b01_f (by decide)] at k; exact k)
            | (rw [b01_t (by simp_all [Int32.not_le, Int32.not_lt])] at k; exact k)
            | (rw [b01_f (by simp_all [Int32.not_le, Int32.not_lt])] at k; exact k)
        · refine X_iconst (v := 1) 75 dX16_is_74 rfl (by decide) ?_
          refine X_goto 79 dX16_is_75 (by decide) ?_
          refine X_zret dX16_is_79 rfl rfl ?_
          have e : mt (p 5) (p' 5) (p 6) (p' 6) (tn 7) = ((if 0 < X0 then decide (Y0 < 0) else decide (0 < Y0)) && decide (ab X0 + ab Y0 < 180)) := by
            unfold mt; rw [hx, hy]; simp [c_18]
          rw [e] at k
          first
            | (rw [b01_f (by rw [if_neg (Int32.not_lt.mpr c_42), decide_eq_false (Int32.not_lt.mpr c_55)]; simp)] at k; exact k)
            | (have q : ((if 0 < X0 then decide (Y0 < 0) else decide (0 < Y0)) && decide (ab X0 + ab Y0 < 180)) = false := by (rw [if_pos (Int32.not_le.mp c_42), decide_eq_false (Int32.not_lt.mpr c_47)]; rfl)
               rw [q, b01_f (by decide)] at k; exact k)
            | (rw [b01_t (by simp_all [Int32.not_le, Int32.not_lt])] at k; exact k)
            | (rw [b01_f (by simp_all [Int32.not_le, Int32.not_lt])] at k; exact k)
  · refine X_iconst (v := 1) 22 dX16_is_21 rfl (by decide) ?_
    refine X_zret dX16_is_22 rfl rfl ?_
    rw [b01_t (by unfold mt; rw [hx]; simp only [Bool.or_eq_true, decide_eq_true_eq]; left; first | exact c_18 | exact Decidable.not_not.mp c_18)] at k
    exact k
/-- the sum at r is E, for skies of n planets; m bounds how deep it is -/
def SU (κ : Kx) (n : Nat) : Nat → Gt → Nat → (Sv → Int32) → Prop
  | 0, _, _, _ => False
  | m + 1, G, r, E => ow G r = none ∧ ((gT G r = 16 ∧ E = fun _ => gI G 16 0 r) ∨
    (gT G r = 17 ∧ ∃ j i i', j < 5 ∧ gR G 17 0 r = some (kC κ (15 + j)) ∧ (2 ≤ j → gI G 17 1 r = nI i ∧ i < n) ∧ (j = 4 → gI G 17 2 r = nI i' ∧ i' < n) ∧ E = ak j i i') ∨
    (gT G r = 18 ∧ ∃ s E1, gR G 18 0 r = some s ∧ SU κ n m G s E1 ∧ E = fun v => -(E1 v)) ∨
    (gT G r = 19 ∧ ∃ j s t E1 E2, j < 7 ∧ gR G 19 0 r = some (kC κ (8 + j)) ∧ gR G 19 1 r = some s ∧ gR G 19 2 r = some t ∧ SU κ n m G s E1 ∧ SU κ n m G t E2 ∧ E = fun v => jn j (E1 v) (E2 v)))
theorem SU.md {κ : Kx} {n : Nat} {S : List Nat} {G G' : Gt} (w : Md S G G') : ∀ (m r : Nat) (E : Sv → Int32), SU κ n m G r E → SU κ n m G' r E
  | 0, _, _, h => h
  | m + 1, r, E, h => by
    obtain ⟨ho, h⟩ := h
    have hk : gT G r ≠ 0 := by rcases h with ⟨t, -⟩ | ⟨t, -⟩ | ⟨t, -⟩ | ⟨t, -⟩ <;> rw [t] <;> decide
    have a1 := w.a hk (fun _ _ => by rw [ho]; exact fun q => by cases q)
    refine ⟨a1.o.trans ho, ?_⟩
    rcases h with ⟨t, e⟩ | ⟨t, j, i, i', h1, h2, h3, h4, e⟩ | ⟨t, s, E1, h1, h2, e⟩ | ⟨t, j, s, t2, E1, E2, h1, h2, h3, h4, h5, h6, e⟩
    · exact Or.inl ⟨a1.t.trans t, by rw [a1.i (by decide)]; exact e⟩
    · refine Or.inr (Or.inl ⟨a1.t.trans t, j, i, i', h1, (a1.r 17 0).trans h2, ?_, ?_, e⟩)
      · rw [a1.i (by decide)]; exact h3
      · rw [a1.i (by decide)]; exact h4
    · exact Or.inr (Or.inr (Or.inl ⟨a1.t.trans t, s, E1, (a1.r 18 0).trans h1, SU.md w m s E1 h2, e⟩))
    · exact Or.inr (Or.inr (Or.inr ⟨a1.t.trans t, j, s, t2, E1, E2, h1, (a1.r 19 0).trans h2, (a1.r 19 1).trans h3, (a1.r 19 2).trans h4, SU.md w m s E1 h5, SU.md w m t2 E2 h6, e⟩))
theorem SU.up {κ : Kx} {n : Nat} {G : Gt} : ∀ (m r : Nat) (E : Sv → Int32), SU κ n m G r E → SU κ n (m + 1) G r E
  | 0, _, _, h => h.elim
  | m + 1, r, E, h => by
    obtain ⟨ho, h⟩ := h
    refine ⟨ho, ?_⟩
    rcases h with h | h | ⟨t, s, E1, h1, h2, e⟩ | ⟨t, j, s, t2, E1, E2, h1, h2, h3, h4, h5, h6, e⟩
    · exact Or.inl h
    · exact Or.inr (Or.inl h)
    · exact Or.inr (Or.inr (Or.inl ⟨t, s, E1, h1, SU.up m s E1 h2, e⟩))
    · exact Or.inr (Or.inr (Or.inr ⟨t, j, s, t2, E1, E2, h1, h2, h3, h4, SU.up m s E1 h5, SU.up m t2 E2 h6, e⟩))
theorem SU.le {κ : Kx} {n : Nat} {G : Gt} {m m' r : Nat} {E : Sv → Int32} (h : SU κ n m G r E) (hm : m ≤ m') : SU κ n m' G r E := by
  obtain ⟨k, rfl⟩ := Nat.exists_eq_add_of_le hm
  clear hm
  induction k with
  | zero => exact h
  | succ k ih => exact SU.up _ _ _ ih
set_option maxHeartbeats 400000 in
theorem s16_ok {κ : Kx} {d a b : Nat} {G : Gt} {Φ : Option Value → Gt → Prop} {Ψ : String → Nat → Gt → Prop} {r sky : Nat} (t : gT G r = 16) (k : Φ (some (.int (gI G 16 0 r))) G) : X κ d mX19_of 0 [some (.ref r), some (.ref sky)] [] G a b Φ Ψ := by
  refine X_aload_n 1 dX19_of_0 rfl rfl ?_
  refine X_getI (t := 16) (k := 0) 4 dX19_of_1 rfl rfl (by decide) (by decide) (Or.inl rfl) q1865 rfl t ?_
  refine X_iret dX19_of_4 rfl ?_
  exact k
set_option maxHeartbeats 400000 in
theorem s17_0_ok {κ : Kx} {d a b : Nat} {G : Gt} {Φ : Option Value → Gt → Prop} {Ψ : String → Nat → Gt → Prop} {sky l cap sb cs : Nat} {ps : Nat → Nat} {v : Sv} (h : SK κ G sky l ps cap sb cs v) {r : Nat} (t : gT G r = 17) (hw : gR G 17 0 r = some (kC κ 15)) (k : Φ (some (.int (ak 0 0 0 v))) G) : X κ (d + 5) mX20_of 0 [some (.ref r), some (.ref sky)] [] G a b Φ Ψ := by
  refine X_aload_n 1 dX20_of_0 rfl rfl ?_
  refine X_getR (t := 17) (k := 0) 4 dX20_of_1 rfl rfl (by decide) (by decide) (Or.inl rfl) q1877 rfl t hw ?_
  refine X_aload_n 5 dX20_of_4 rfl rfl ?_
  refine X_aload_n 6 dX20_of_5 rfl rfl ?_
  refine X_getI (t := 17) (k := 1) 9 dX20_of_6 rfl rfl (by decide) (by decide) (Or.inl rfl) q1878 rfl t ?_
  refine X_aload_n 10 dX20_of_9 rfl rfl ?_
  refine X_getI (t := 17) (k := 2) 13 dX20_of_10 rfl rfl (by decide) (by decide) (Or.inl rfl) q1879 rfl t ?_
  refine X_callR (a1 := 0) (b1 := 0) (a2 := a) (b2 := b) (owner := "ShadowSpell$What") (As := [_, _, _]) 16 dX20_of_13 rfl rfl mr_X28_of rfl q2310 q2312 q2313 q2314 (Or.inr (Or.inl q2311)) (by decide) rfl (RV.c (i := 15) (by decide)) rfl rfl (Nat.le_of_ble_eq_true rfl) rfl (Nat.le_of_ble_eq_true rfl) (Nat.le_of_eq (Nat.zero_add _)) (Nat.le_of_eq (Nat.zero_add _)) ?_
  refine what1_ok h ?_
  refine X_iret dX20_of_16 rfl ?_
  exact k
set_option maxHeartbeats 400000 in
theorem s17_1_ok {κ : Kx} {d a b : Nat} {G : Gt} {Φ : Option Value → Gt → Prop} {Ψ : String → Nat → Gt → Prop} {sky l cap sb cs : Nat} {ps : Nat → Nat} {v : Sv} (h : SK κ G sky l ps cap sb cs v) {r : Nat} (t : gT G r = 17) (hw : gR G 17 0 r = some (kC κ 16)) (k : Φ (some (.int (ak 1 0 0 v))) G) : X κ (d + 5) mX20_of 0 [some (.ref r), some (.ref sky)] [] G a b Φ Ψ := by
  refine X_aload_n 1 dX20_of_0 rfl rfl ?_
  refine X_getR (t := 17) (k := 0) 4 dX20_of_1 rfl rfl (by decide) (by decide) (Or.inl rfl) q1877 rfl t hw ?_
  refine X_aload_n 5 dX20_of_4 rfl rfl ?_
  refine X_aload_n 6 dX20_of_5 rfl rfl ?_
  refine X_getI (t := 17) (k := 1) 9 dX20_of_6 rfl rfl (by decide) (by decide) (Or.inl rfl) q1878 rfl t ?_
  refine X_aload_n 10 dX20_of_9 rfl rfl ?_
  refine X_getI (t := 17) (k := 2) 13 dX20_of_10 rfl rfl (by decide) (by decide) (Or.inl rfl) q1879 rfl t ?_
  refine X_callR (a1 := 0) (b1 := 0) (a2 := a) (b2 := b) (owner := "ShadowSpell$What") (As := [_, _, _]) 16 dX20_of_13 rfl rfl mr_X27_of rfl q2310 q2312 q2316 q2317 (Or.inr (Or.inl q2311)) (by decide) rfl (RV.c (i := 16) (by decide)) rfl rfl (Nat.le_of_ble_eq_true rfl) rfl (Nat.le_of_ble_eq_true rfl) (Nat.le_of_eq (Nat.zero_add _)) (Nat.le_of_eq (Nat.zero_add _)) ?_
  refine what2_ok h ?_
  refine X_iret dX20_of_16 rfl ?_
  exact k
set_option maxHeartbeats 400000 in
theorem s17_2_ok {κ : Kx} {d a b : Nat} {G : Gt} {Φ : Option Value → Gt → Prop} {Ψ : String → Nat → Gt → Prop} {sky l cap sb cs : Nat} {ps : Nat → Nat} {v : Sv} (h : SK κ G sky l ps cap sb cs v) {r : Nat} (t : gT G r = 17) (hw : gR G 17 0 r = some (kC κ 17)) (i : Nat) (hi : i < vN v) (hx : gI G 17 1 r = nI i) (k : Φ (some (.int (ak 2 i 0 v))) G) : X κ (d + 5) mX20_of 0 [some (.ref r), some (.ref sky)] [] G a b Φ Ψ := by
  refine X_aload_n 1 dX20_of_0 rfl rfl ?_
  refine X_getR (t := 17) (k := 0) 4 dX20_of_1 rfl rfl (by decide) (by decide) (Or.inl rfl) q1877 rfl t hw ?_
  refine X_aload_n 5 dX20_of_4 rfl rfl ?_
  refine X_aload_n 6 dX20_of_5 rfl rfl ?_
  refine X_getI (t := 17) (k := 1) 9 dX20_of_6 rfl rfl (by decide) (by decide) (Or.inl rfl) q1878 rfl t ?_
  refine X_aload_n 10 dX20_of_9 rfl rfl ?_
  refine X_getI (t := 17) (k := 2) 13 dX20_of_10 rfl rfl (by decide) (by decide) (Or.inl rfl) q1879 rfl t ?_
  refine X_callR (a1 := 0) (b1 := 0) (a2 := a) (b2 := b) (owner := "ShadowSpell$What") (As := [_, _, _]) 16 dX20_of_13 rfl rfl mr_X25_of rfl q2310 q2312 q2320 q2321 (Or.inr (Or.inl q2311)) (by decide) rfl (RV.c (i := 17) (by decide)) rfl rfl (Nat.le_of_ble_eq_true rfl) rfl (Nat.le_of_ble_eq_true rfl) (Nat.le_of_eq (Nat.zero_add _)) (Nat.le_of_eq (Nat.zero_add _)) ?_
  refine what3_ok h i hi hx ?_
  refine X_iret dX20_of_16 rfl ?_
  exact k
set_option maxHeartbeats 400000 in
theorem s17_3_ok {κ : Kx} {d a b : Nat} {G : Gt} {Φ : Option Value → Gt → Prop} {Ψ : String → Nat → Gt → Prop} {sky l cap sb cs : Nat} {ps : Nat → Nat} {v : Sv} (h : SK κ G sky l ps cap sb cs v) {r : Nat} (t : gT G r = 17) (hw : gR G 17 0 r = some (kC κ 18)) (i : Nat) (hi : i < vN v) (hx : gI G 17 1 r = nI i) (k : Φ (some (.int (ak 3 i 0 v))) G) : X κ (d + 5) mX20_of 0 [some (.ref r), some (.ref sky)] [] G a b Φ Ψ := by
  refine X_aload_n 1 dX20_of_0 rfl rfl ?_
  refine X_getR (t := 17) (k := 0) 4 dX20_of_1 rfl rfl (by decide) (by decide) (Or.inl rfl) q1877 rfl t hw ?_
  refine X_aload_n 5 dX20_of_4 rfl rfl ?_
  refine X_aload_n 6 dX20_of_5 rfl rfl ?_
  refine X_getI (t := 17) (k := 1) 9 dX20_of_6 rfl rfl (by decide) (by decide) (Or.inl rfl) q1878 rfl t ?_
  refine X_aload_n 10 dX20_of_9 rfl rfl ?_
  refine X_getI (t := 17) (k := 2) 13 dX20_of_10 rfl rfl (by decide) (by decide) (Or.inl rfl) q1879 rfl t ?_
  refine X_callR (a1 := 0) (b1 := 0) (a2 := a) (b2 := b) (owner := "ShadowSpell$What") (As := [_, _, _]) 16 dX20_of_13 rfl rfl mr_X26_of rfl q2310 q2312 q2325 q2326 (Or.inr (Or.inl q2311)) (by decide) rfl (RV.c (i := 18) (by decide)) rfl rfl (Nat.le_of_ble_eq_true rfl) rfl (Nat.le_of_ble_eq_true rfl) (Nat.le_of_eq (Nat.zero_add _)) (Nat.le_of_eq (Nat.zero_add _)) ?_
  refine what4_ok h i hi hx ?_
  refine X_iret dX20_of_16 rfl ?_
  exact k
set_option maxHeartbeats 400000 in
theorem s17_4_ok {κ : Kx} {d a b : Nat} {G : Gt} {Φ : Option Value → Gt → Prop} {Ψ : String → Nat → Gt → Prop} {sky l cap sb cs : Nat} {ps : Nat → Nat} {v : Sv} (h : SK κ G sky l ps cap sb cs v) {r : Nat} (t : gT G r = 17) (hw : gR G 17 0 r = some (kC κ 19)) (i i' : Nat) (hi : i < vN v) (hx : gI G 17 1 r = nI i) (hi' : i' < vN v) (hx' : gI G 17 2 r = nI i') (k : Φ (some (.int (ak 4 i i' v))) G) : X κ (d + 5) mX20_of 0 [some (.ref r), some (.ref sky)] [] G a b Φ Ψ := by
  refine X_aload_n 1 dX20_of_0 rfl rfl ?_
  refine X_getR (t := 17) (k := 0) 4 dX20_of_1 rfl rfl (by decide) (by decide) (Or.inl rfl) q1877 rfl t hw ?_
  refine X_aload_n 5 dX20_of_4 rfl rfl ?_
  refine X_aload_n 6 dX20_of_5 rfl rfl ?_
  refine X_getI (t := 17) (k := 1) 9 dX20_of_6 rfl rfl (by decide) (by decide) (Or.inl rfl) q1878 rfl t ?_
  refine X_aload_n 10 dX20_of_9 rfl rfl ?_
  refine X_getI (t := 17) (k := 2) 13 dX20_of_10 rfl rfl (by decide) (by decide) (Or.inl rfl) q1879 rfl t ?_
  refine X_callR (a1 := 0) (b1 := 0) (a2 := a) (b2 := b) (owner := "ShadowSpell$What") (As := [_, _, _]) 16 dX20_of_13 rfl rfl mr_X38_of rfl q2310 q2312 q2330 q2331 (Or.inr (Or.inl q2311)) (by decide) rfl (RV.c (i := 19) (by decide)) rfl rfl (Nat.le_of_ble_eq_true rfl) rfl (Nat.le_of_ble_eq_true rfl) (Nat.le_of_eq (Nat.zero_add _)) (Nat.le_of_eq (Nat.zero_add _)) ?_
  refine what5_ok h i i' hi hi' hx hx' ?_
  refine X_iret dX20_of_16 rfl ?_
  exact k
set_option maxHeartbeats 400000 in
theorem s18_ok {κ : Kx} {d a b : Nat} {G : Gt} {Φ : Option Value → Gt → Prop} {Ψ : String → Nat → Gt → Prop} {r sky s : Nat} {x : Int32} (t : gT G r = 18) (f1 : gR G 18 0 r = some s) (hc : X κ d mX21_of 8 [some (.ref r), some (.ref sky)] [.int x] G a b Φ Ψ → X κ d mX21_of 5 [some (.ref r), some (.ref sky)] [.ref sky, .ref s] G a b Φ Ψ) (k : Φ (some (.int (-x))) G) : X κ d mX21_of 0 [some (.ref r), some (.ref sky)] [] G a b Φ Ψ := by
  refine X_aload_n 1 dX21_of_0 rfl rfl ?_
  refine X_getR (t := 18) (k := 0) 4 dX21_of_1 rfl rfl (by decide) (by decide) (Or.inl rfl) q1894 rfl t f1 ?_
  refine X_aload_n 5 dX21_of_4 rfl rfl ?_
  refine hc ?_
  refine X_ineg 9 dX21_of_8 rfl ?_
  exact X_iret dX21_of_9 rfl k
set_option maxHeartbeats 400000 in
theorem s19_0_ok {κ : Kx} {d a b : Nat} {G : Gt} {Φ : Option Value → Gt → Prop} {Ψ : String → Nat → Gt → Prop} {r sky s t2 : Nat} {x y : Int32} (t : gT G r = 19) (f0 : gR G 19 0 r = some (kC κ 8)) (f1 : gR G 19 1 r = some s) (f2 : gR G 19 2 r = some t2) (hc : ∀ {pc q : Nat} {st : List Value} {r0 : Nat} {z : Int32}, (pc = 9 ∧ q = 12 ∧ st = [.ref (kC κ 8)] ∧ r0 = s ∧ z = x) ∨ (pc = 17 ∧ q = 20 ∧ st = [.int x, .ref (kC κ 8)] ∧ r0 = t2 ∧ z = y) → X κ (d + 2) mX22_of q [some (.ref r), some (.ref sky)] (.int z :: st) G a b Φ Ψ → X κ (d + 2) mX22_of pc [some (.ref r), some (.ref sky)] (.ref sky :: .ref r0 :: st) G a b Φ Ψ) (k : Φ (some (.int (jn 0 x y))) G) : X κ (d + 2) mX22_of 0 [some (.ref r), some (.ref sky)] [] G a b Φ Ψ := by
  refine X_aload_n 1 dX22_of_0 rfl rfl ?_
  refine X_getR (t := 19) (k := 0) 4 dX22_of_1 rfl rfl (by decide) (by decide) (Or.inl rfl) q1910 rfl t f0 ?_
  refine X_aload_n 5 dX22_of_4 rfl rfl ?_
  refine X_getR (t := 19) (k := 1) 8 dX22_of_5 rfl rfl (by decide) (by decide) (Or.inl rfl) q1911 rfl t f1 ?_
  refine X_aload_n 9 dX22_of_8 rfl rfl ?_
  refine hc (Or.inl ⟨rfl, rfl, rfl, rfl, rfl⟩) ?_
  refine X_aload_n 13 dX22_of_12 rfl rfl ?_
  refine X_getR (t := 19) (k := 2) 16 dX22_of_13 rfl rfl (by decide) (by decide) (Or.inl rfl) q1912 rfl t f2 ?_
  refine X_aload_n 17 dX22_of_16 rfl rfl ?_
  refine hc (Or.inr ⟨rfl, rfl, rfl, rfl, rfl⟩) ?_
  refine X_callR (a1 := 0) (b1 := 0) (a2 := a) (b2 := b) (owner := "ShadowSpell$Sign") (As := [_, _]) 23 dX22_of_20 rfl rfl mr_X31_join rfl q2350 q2352 q2353 q2354 (Or.inr (Or.inl q2351)) (by decide) rfl (RV.c (i := 8) (by decide)) rfl rfl (Nat.le_of_ble_eq_true rfl) rfl (Nat.le_of_ble_eq_true rfl) (Nat.le_of_eq (Nat.zero_add _)) (Nat.le_of_eq (Nat.zero_add _)) ?_
  refine join0_ok ?_
  refine X_iret dX22_of_23 rfl ?_
  exact k
set_option maxHeartbeats 400000 in
theorem s19_1_ok {κ : Kx} {d a b : Nat} {G : Gt} {Φ : Option Value → Gt → Prop} {Ψ : String → Nat → Gt → Prop} {r sky s t2 : Nat} {x y : Int32} (t : gT G r = 19) (f0 : gR G 19 0 r = some (kC κ 9)) (f1 : gR G 19 1 r = some s) (f2 : gR G 19 2 r = some t2) (hc : ∀ {pc q : Nat} {st : List Value} {r0 : Nat} {z : Int32}, (pc = 9 ∧ q = 12 ∧ st = [.ref (kC κ 9)] ∧ r0 = s ∧ z = x) ∨ (pc = 17 ∧ q = 20 ∧ st = [.int x, .ref (kC κ 9)] ∧ r0 = t2 ∧ z = y) → X κ (d + 2) mX22_of q [some (.ref r), some (.ref sky)] (.int z :: st) G a b Φ Ψ → X κ (d + 2) mX22_of pc [some (.ref r), some (.ref sky)] (.ref sky :: .ref r0 :: st) G a b Φ Ψ) (k : Φ (some (.int (jn 1 x y))) G) : X κ (d + 2) mX22_of 0 [some (.ref r), some (.ref sky)] [] G a b Φ Ψ := by
  refine X_aload_n 1 dX22_of_0 rfl rfl ?_
  refine X_getR (t := 19) (k := 0) 4 dX22_of_1 rfl rfl (by decide) (by decide) (Or.inl rfl) q1910 rfl t f0 ?_
  refine X_aload_n 5 dX22_of_4 rfl rfl ?_
  refine X_getR (t := 19) (k := 1) 8 dX22_of_5 rfl rfl (by decide) (by decide) (Or.inl rfl) q1911 rfl t f1 ?_
  refine X_aload_n 9 dX22_of_8 rfl rfl ?_
  refine hc (Or.inl ⟨rfl, rfl, rfl, rfl, rfl⟩) ?_
  refine X_aload_n 13 dX22_of_12 rfl rfl ?_
  refine X_getR (t := 19) (k := 2) 16 dX22_of_13 rfl rfl (by decide) (by decide) (Or.inl rfl) q1912 rfl t f2 ?_
  refine X_aload_n 17 dX22_of_16 rfl rfl ?_
  refine hc (Or.inr ⟨rfl, rfl, rfl, rfl, rfl⟩) ?_
  refine X_callR (a1 := 0) (b1 := 0) (a2 := a) (b2 := b) (owner := "ShadowSpell$Sign") (As := [_, _]) 23 dX22_of_20 rfl rfl mr_X32_join rfl q2350 q2352 q2356 q2357 (Or.inr (Or.inl q2351)) (by decide) rfl (RV.c (i := 9) (by decide)) rfl rfl (Nat.le_of_ble_eq_true rfl) rfl (Nat.le_of_ble_eq_true rfl) (Nat.le_of_eq (Nat.zero_add _)) (Nat.le_of_eq (Nat.zero_add _)) ?_
  refine join1_ok ?_
  refine X_iret dX22_of_23 rfl ?_
  exact k
set_option maxHeartbeats 400000 in
theorem s19_2_ok {κ : Kx} {d a b : Nat} {G : Gt} {Φ : Option Value → Gt → Prop} {Ψ : String → Nat → Gt → Prop} {r sky s t2 : Nat} {x y : Int32} (t : gT G r = 19) (f0 : gR G 19 0 r = some (kC κ 10)) (f1 : gR G 19 1 r = some s) (f2 : gR G 19 2 r = some t2) (hc : ∀ {pc q : Nat} {st : List Value} {r0 : Nat} {z : Int32}, (pc = 9 ∧ q = 12 ∧ st = [.ref (kC κ 10)] ∧ r0 = s ∧ z = x) ∨ (pc = 17 ∧ q = 20 ∧ st = [.int x, .ref (kC κ 10)] ∧ r0 = t2 ∧ z = y) → X κ (d + 2) mX22_of q [some (.ref r), some (.ref sky)] (.int z :: st) G a b Φ Ψ → X κ (d + 2) mX22_of pc [some (.ref r), some (.ref sky)] (.ref sky :: .ref r0 :: st) G a b Φ Ψ) (k : Φ (some (.int (jn 2 x y))) G) : X κ (d + 2) mX22_of 0 [some (.ref r), some (.ref sky)] [] G a b Φ Ψ := by
  refine X_aload_n 1 dX22_of_0 rfl rfl ?_
  refine X_getR (t := 19) (k := 0) 4 dX22_of_1 rfl rfl (by decide) (by decide) (Or.inl rfl) q1910 rfl t f0 ?_
  refine X_aload_n 5 dX22_of_4 rfl rfl ?_
  refine X_getR (t := 19) (k := 1) 8 dX22_of_5 rfl rfl (by decide) (by decide) (Or.inl rfl) q1911 rfl t f1 ?_
  refine X_aload_n 9 dX22_of_8 rfl rfl ?_
  refine hc (Or.inl ⟨rfl, rfl, rfl, rfl, rfl⟩) ?_
  refine X_aload_n 13 dX22_of_12 rfl rfl ?_
  refine X_getR (t := 19) (k := 2) 16 dX22_of_13 rfl rfl (by decide) (by decide) (Or.inl rfl) q1912 rfl t f2 ?_
  refine X_aload_n 17 dX22_of_16 rfl rfl ?_
  refine hc (Or.inr ⟨rfl, rfl, rfl, rfl, rfl⟩) ?_
  refine X_callR (a1 := 0) (b1 := 0) (a2 := a) (b2 := b) (owner := "ShadowSpell$Sign") (As := [_, _]) 23 dX22_of_20 rfl rfl mr_X33_join rfl q2350 q2352 q2359 q2360 (Or.inr (Or.inl q2351)) (by decide) rfl (RV.c (i := 10) (by decide)) rfl rfl (Nat.le_of_ble_eq_true rfl) rfl (Nat.le_of_ble_eq_true rfl) (Nat.le_of_eq (Nat.zero_add _)) (Nat.le_of_eq (Nat.zero_add _)) ?_
  refine join2_ok ?_
  refine X_iret dX22_of_23 rfl ?_
  exact k
set_option maxHeartbeats 400000 in
theorem s19_3_ok {κ : Kx} {d a b : Nat} {G : Gt} {Φ : Option Value → Gt → Prop} {Ψ : String → Nat → Gt → Prop} {r sky s t2 : Nat} {x y : Int32} (t : gT G r = 19) (f0 : gR G 19 0 r = some (kC κ 11)) (f1 : gR G 19 1 r = some s) (f2 : gR G 19 2 r = some t2) (hc : ∀ {pc q : Nat} {st : List Value} {r0 : Nat} {z : Int32}, (pc = 9 ∧ q = 12 ∧ st = [.ref (kC κ 11)] ∧ r0 = s ∧ z = x) ∨ (pc = 17 ∧ q = 20 ∧ st = [.int x, .ref (kC κ 11)] ∧ r0 = t2 ∧ z = y) → X κ (d + 2) mX22_of q [some (.ref r), some (.ref sky)] (.int z :: st) G a b Φ Ψ → X κ (d + 2) mX22_of pc [some (.ref r), some (.ref sky)] (.ref sky :: .ref r0 :: st) G a b Φ Ψ) (k : Φ (some (.int (jn 3 x y))) G) : X κ (d + 2) mX22_of 0 [some (.ref r), some (.ref sky)] [] G a b Φ Ψ := by
  refine X_aload_n 1 dX22_of_0 rfl rfl ?_
  refine X_getR (t := 19) (k := 0) 4 dX22_of_1 rfl rfl (by decide) (by decide) (Or.inl rfl) q1910 rfl t f0 ?_
  refine X_aload_n 5 dX22_of_4 rfl rfl ?_
  refine X_getR (t := 19) (k := 1) 8 dX22_of_5 rfl rfl (by decide) (by decide) (Or.inl rfl) q1911 rfl t f1 ?_
  refine X_aload_n 9 dX22_of_8 rfl rfl ?_
  refine hc (Or.inl ⟨rfl, rfl, rfl, rfl, rfl⟩) ?_
  refine X_aload_n 13 dX22_of_12 rfl rfl ?_
  refine X_getR (t := 19) (k := 2) 16 dX22_of_13 rfl rfl (by decide) (by decide) (Or.inl rfl) q1912 rfl t f2 ?_
  refine X_aload_n 17 dX22_of_16 rfl rfl ?_
  refine hc (Or.inr ⟨rfl, rfl, rfl, rfl, rfl⟩) ?_
  refine X_callR (a1 := 0) (b1 := 0) (a2 := a) (b2 := b) (owner := "ShadowSpell$Sign") (As := [_, _]) 23 dX22_of_20 rfl rfl mr_X34_join rfl q2350 q2352 q2362 q2363 (Or.inr (Or.inl q2351)) (by decide) rfl (RV.c (i := 11) (by decide)) rfl rfl (Nat.le_of_ble_eq_true rfl) rfl (Nat.le_of_ble_eq_true rfl) (Nat.le_of_eq (Nat.zero_add _)) (Nat.le_of_eq (Nat.zero_add _)) ?_
  refine join3_ok ?_
  refine X_iret dX22_of_23 rfl ?_
  exact k
set_option maxHeartbeats 400000 in
theorem s19_4_ok {κ : Kx} {d a b : Nat} {G : Gt} {Φ : Option Value → Gt → Prop} {Ψ : String → Nat → Gt → Prop} {r sky s t2 : Nat} {x y : Int32} (t : gT G r = 19) (f0 : gR G 19 0 r = some (kC κ 12)) (f1 : gR G 19 1 r = some s) (f2 : gR G 19 2 r = some t2) (hc : ∀ {pc q : Nat} {st : List Value} {r0 : Nat} {z : Int32}, (pc = 9 ∧ q = 12 ∧ st = [.ref (kC κ 12)] ∧ r0 = s ∧ z = x) ∨ (pc = 17 ∧ q = 20 ∧ st = [.int x, .ref (kC κ 12)] ∧ r0 = t2 ∧ z = y) → X κ (d + 2) mX22_of q [some (.ref r), some (.ref sky)] (.int z :: st) G a b Φ Ψ → X κ (d + 2) mX22_of pc [some (.ref r), some (.ref sky)] (.ref sky :: .ref r0 :: st) G a b Φ Ψ) (k : Φ (some (.int (jn 4 x y))) G) : X κ (d + 2) mX22_of 0 [some (.ref r), some (.ref sky)] [] G a b Φ Ψ := by
  refine X_aload_n 1 dX22_of_0 rfl rfl ?_
  refine X_getR (t := 19) (k := 0) 4 dX22_of_1 rfl rfl (by decide) (by decide) (Or.inl rfl) q1910 rfl t f0 ?_
  refine X_aload_n 5 dX22_of_4 rfl rfl ?_
  refine X_getR (t := 19) (k := 1) 8 dX22_of_5 rfl rfl (by decide) (by decide) (Or.inl rfl) q1911 rfl t f1 ?_
  refine X_aload_n 9 dX22_of_8 rfl rfl ?_
  refine hc (Or.inl ⟨rfl, rfl, rfl, rfl, rfl⟩) ?_
  refine X_aload_n 13 dX22_of_12 rfl rfl ?_
  refine X_getR (t := 19) (k := 2) 16 dX22_of_13 rfl rfl (by decide) (by decide) (Or.inl rfl) q1912 rfl t f2 ?_
  refine X_aload_n 17 dX22_of_16 rfl rfl ?_
  refine hc (Or.inr ⟨rfl, rfl, rfl, rfl, rfl⟩) ?_
  refine X_callR (a1 := 0) (b1 := 0) (a2 := a) (b2 := b) (owner := "ShadowSpell$Sign") (As := [_, _]) 23 dX22_of_20 rfl rfl mr_X35_join rfl q2350 q2352 q2365 q2366 (Or.inr (Or.inl q2351)) (by decide) rfl (RV.c (i := 12) (by decide)) rfl rfl (Nat.le_of_ble_eq_true rfl) rfl (Nat.le_of_ble_eq_true rfl) (Nat.le_of_eq (Nat.zero_add _)) (Nat.le_of_eq (Nat.zero_add _)) ?_
  refine join4_ok ?_
  refine X_iret dX22_of_23 rfl ?_
  exact k
set_option maxHeartbeats 400000 in
theorem s19_5_ok {κ : Kx} {d a b : Nat} {G : Gt} {Φ : Option Value → Gt → Prop} {Ψ : String → Nat → Gt → Prop} {r sky s t2 : Nat} {x y : Int32} (t : gT G r = 19) (f0 : gR G 19 0 r = some (kC κ 13)) (f1 : gR G 19 1 r = some s) (f2 : gR G 19 2 r = some t2) (hc : ∀ {pc q : Nat} {st : List Value} {r0 : Nat} {z : Int32}, (pc = 9 ∧ q = 12 ∧ st = [.ref (kC κ 13)] ∧ r0 = s ∧ z = x) ∨ (pc = 17 ∧ q = 20 ∧ st = [.int x, .ref (kC κ 13)] ∧ r0 = t2 ∧ z = y) → X κ (d + 2) mX22_of q [some (.ref r), some (.ref sky)] (.int z :: st) G a b Φ Ψ → X κ (d + 2) mX22_of pc [some (.ref r), some (.ref sky)] (.ref sky :: .ref r0 :: st) G a b Φ Ψ) (k : Φ (some (.int (jn 5 x y))) G) : X κ (d + 2) mX22_of 0 [some (.ref r), some (.ref sky)] [] G a b Φ Ψ := by
  refine X_aload_n 1 dX22_of_0 rfl rfl ?_
  refine X_getR (t := 19) (k := 0) 4 dX22_of_1 rfl rfl (by decide) (by decide) (Or.inl rfl) q1910 rfl t f0 ?_
  refine X_aload_n 5 dX22_of_4 rfl rfl ?_
  refine X_getR (t := 19) (k := 1) 8 dX22_of_5 rfl rfl (by decide) (by decide) (Or.inl rfl) q1911 rfl t f1 ?_
  refine X_aload_n 9 dX22_of_8 rfl rfl ?_
  refine hc (Or.inl ⟨rfl, rfl, rfl, rfl, rfl⟩) ?_
  refine X_aload_n 13 dX22_of_12 rfl rfl ?_
  refine X_getR (t := 19) (k := 2) 16 dX22_of_13 rfl rfl (by decide) (by decide) (Or.inl rfl) q1912 rfl t f2 ?_
  refine X_aload_n 17 dX22_of_16 rfl rfl ?_
  refine hc (Or.inr ⟨rfl, rfl, rfl, rfl, rfl⟩) ?_
  refine X_callR (a1 := 0) (b1 := 0) (a2 := a) (b2 := b) (owner := "ShadowSpell$Sign") (As := [_, _]) 23 dX22_of_20 rfl rfl mr_X36_join rfl q2350 q2352 q2368 q2369 (Or.inr (Or.inl q2351)) (by decide) rfl (RV.c (i := 13) (by decide)) rfl rfl (Nat.le_of_ble_eq_true rfl) rfl (Nat.le_of_ble_eq_true rfl) (Nat.le_of_eq (Nat.zero_add _)) (Nat.le_of_eq (Nat.zero_add _)) ?_
  refine join5_ok ?_
  refine X_iret dX22_of_23 rfl ?_
  exact k
set_option maxHeartbeats 400000 in
theorem s19_6_ok {κ : Kx} {d a b : Nat} {G : Gt} {Φ : Option Value → Gt → Prop} {Ψ : String → Nat → Gt → Prop} {r sky s t2 : Nat} {x y : Int32} (t : gT G r = 19) (f0 : gR G 19 0 r = some (kC κ 14)) (f1 : gR G 19 1 r = some s) (f2 : gR G 19 2 r = some t2) (hc : ∀ {pc q : Nat} {st : List Value} {r0 : Nat} {z : Int32}, (pc = 9 ∧ q = 12 ∧ st = [.ref (kC κ 14)] ∧ r0 = s ∧ z = x) ∨ (pc = 17 ∧ q = 20 ∧ st = [.int x, .ref (kC κ 14)] ∧ r0 = t2 ∧ z = y) → X κ (d + 2) mX22_of q [some (.ref r), some (.ref sky)] (.int z :: st) G a b Φ Ψ → X κ (d + 2) mX22_of pc [some (.ref r), some (.ref sky)] (.ref sky :: .ref r0 :: st) G a b Φ Ψ) (k : Φ (some (.int (jn 6 x y))) G) : X κ (d + 2) mX22_of 0 [some (.ref r), some (.ref sky)] [] G a b Φ Ψ := by
  refine X_aload_n 1 dX22_of_0 rfl rfl ?_
  refine X_getR (t := 19) (k := 0) 4 dX22_of_1 rfl rfl (by decide) (by decide) (Or.inl rfl) q1910 rfl t f0 ?_
  refine X_aload_n 5 dX22_of_4 rfl rfl ?_
  refine X_getR (t := 19) (k := 1) 8 dX22_of_5 rfl rfl (by decide) (by decide) (Or.inl rfl) q1911 rfl t f1 ?_
  refine X_aload_n 9 dX22_of_8 rfl rfl ?_
  refine hc (Or.inl ⟨rfl, rfl, rfl, rfl, rfl⟩) ?_
  refine X_aload_n 13 dX22_of_12 rfl rfl ?_
  refine X_getR (t := 19) (k := 2) 16 dX22_of_13 rfl rfl (by decide) (by decide) (Or.inl rfl) q1912 rfl t f2 ?_
  refine X_aload_n 17 dX22_of_16 rfl rfl ?_
  refine hc (Or.inr ⟨rfl, rfl, rfl, rfl, rfl⟩) ?_
  refine X_callR (a1 := 0) (b1 := 0) (a2 := a) (b2 := b) (owner := "ShadowSpell$Sign") (As := [_, _]) 23 dX22_of_20 rfl rfl mr_X37_join rfl q2350 q2352 q2372 q2373 (Or.inr (Or.inl q2351)) (by decide) rfl (RV.c (i := 14) (by decide)) rfl rfl (Nat.le_of_ble_eq_true rfl) rfl (Nat.le_of_ble_eq_true rfl) (Nat.le_of_eq (Nat.zero_add _)) (Nat.le_of_eq (Nat.zero_add _)) ?_
  refine join6_ok ?_
  refine X_iret dX22_of_23 rfl ?_
  exact k
theorem c16_call {κ : Kx} {d : Nat} {M : XM} {pc : Nat} {L : List (Option Value)} {st : List Value} {G : Gt} {a b : Nat} {Φ : Option Value → Gt → Prop} {Ψ : String → Nat → Gt → Prop} {index r sky : Nat} (q : Nat) (hd : decode (mB M) pc = .ok (.invokevirtual index, 3)) (hq : pc + 3 = q) (hN : mH M = none) (w1 : Cond.methodLink (mO M) index ⟨"ShadowSpell$Sum", "of", "(LShadowSpell$Sky;)I"⟩ ∈ lw_all) (t : gT G r = 16) (hcs : (st.map fun v => v.category).sum ≤ 8) (k : X κ d mX19_of 0 [some (.ref r), some (.ref sky)] [] G 0 0 (fun v G' => X κ (d + 1) M q L (v.toList ++ st) G' a b Φ Ψ) Ψ) : X κ (d + 1) M pc L (.ref sky :: .ref r :: st) G a b Φ Ψ :=
  X_U1z (owner := "ShadowSpell$Sum") q hd hq hN mo_X19_of rfl w1 q2306 q2376 q2345 (Or.inr (Or.inl q2305)) (by decide) rfl (RV.t (t := 16) t (by decide) rfl) rfl hcs rfl (Nat.le_of_ble_eq_true rfl) k
theorem c17_call {κ : Kx} {d : Nat} {M : XM} {pc : Nat} {L : List (Option Value)} {st : List Value} {G : Gt} {a b : Nat} {Φ : Option Value → Gt → Prop} {Ψ : String → Nat → Gt → Prop} {index r sky : Nat} (q : Nat) (hd : decode (mB M) pc = .ok (.invokevirtual index, 3)) (hq : pc + 3 = q) (hN : mH M = none) (w1 : Cond.methodLink (mO M) index ⟨"ShadowSpell$Sum", "of", "(LShadowSpell$Sky;)I"⟩ ∈ lw_all) (t : gT G r = 17) (hcs : (st.map fun v => v.category).sum ≤ 8) (k : X κ d mX20_of 0 [some (.ref r), some (.ref sky)] [] G 0 0 (fun v G' => X κ (d + 1) M q L (v.toList ++ st) G' a b Φ Ψ) Ψ) : X κ (d + 1) M pc L (.ref sky :: .ref r :: st) G a b Φ Ψ :=
  X_U1z (owner := "ShadowSpell$Sum") q hd hq hN mo_X20_of rfl w1 q2306 q2307 q2308 (Or.inr (Or.inl q2305)) (by decide) rfl (RV.t (t := 17) t (by decide) rfl) rfl hcs rfl (Nat.le_of_ble_eq_true rfl) k
theorem c18_call {κ : Kx} {d : Nat} {M : XM} {pc : Nat} {L : List (Option Value)} {st : List Value} {G : Gt} {a b : Nat} {Φ : Option Value → Gt → Prop} {Ψ : String → Nat → Gt → Prop} {index r sky : Nat} (q : Nat) (hd : decode (mB M) pc = .ok (.invokevirtual index, 3)) (hq : pc + 3 = q) (hN : mH M = none) (w1 : Cond.methodLink (mO M) index ⟨"ShadowSpell$Sum", "of", "(LShadowSpell$Sky;)I"⟩ ∈ lw_all) (t : gT G r = 18) (hcs : (st.map fun v => v.category).sum ≤ 8) (k : X κ d mX21_of 0 [some (.ref r), some (.ref sky)] [] G 0 0 (fun v G' => X κ (d + 1) M q L (v.toList ++ st) G' a b Φ Ψ) Ψ) : X κ (d + 1) M pc L (.ref sky :: .ref r :: st) G a b Φ Ψ :=
  X_U1z (owner := "ShadowSpell$Sum") q hd hq hN mo_X21_of rfl w1 q2306 q2377 q2347 (Or.inr (Or.inl q2305)) (by decide) rfl (RV.t (t := 18) t (by decide) rfl) rfl hcs rfl (Nat.le_of_ble_eq_true rfl) k
theorem c19_call {κ : Kx} {d : Nat} {M : XM} {pc : Nat} {L : List (Option Value)} {st : List Value} {G : Gt} {a b : Nat} {Φ : Option Value → Gt → Prop} {Ψ : String → Nat → Gt → Prop} {index r sky : Nat} (q : Nat) (hd : decode (mB M) pc = .ok (.invokevirtual index, 3)) (hq : pc + 3 = q) (hN : mH M = none) (w1 : Cond.methodLink (mO M) index ⟨"ShadowSpell$Sum", "of", "(LShadowSpell$Sky;)I"⟩ ∈ lw_all) (t : gT G r = 19) (hcs : (st.map fun v => v.category).sum ≤ 8) (k : X κ d mX22_of 0 [some (.ref r), some (.ref sky)] [] G 0 0 (fun v G' => X κ (d + 1) M q L (v.toList ++ st) G' a b Φ Ψ) Ψ) : X κ (d + 1) M pc L (.ref sky :: .ref r :: st) G a b Φ Ψ :=
  X_U1z (owner := "ShadowSpell$Sum") q hd hq hN mo_X22_of rfl w1 q2306 q2341 q2342 (Or.inr (Or.inl q2305)) (by decide) rfl (RV.t (t := 19) t (by decide) rfl) rfl hcs rfl (Nat.le_of_ble_eq_true rfl) k
def SOf (m : Nat) : Prop := ∀ {κ : Kx} {d : Nat} {M : XM} {pc : Nat} {L : List (Option Value)} {st : List Value} {G : Gt} {a b : Nat} {Φ : Option Value → Gt → Prop} {Ψ : String → Nat → Gt → Prop} {sky l cap sb cs : Nat} {ps : Nat → Nat} {v : Sv} (_ : SK κ G sky l ps cap sb cs v) {index r : Nat} {E : Sv → Int32} (q : Nat) (hd : decode (mB M) pc = .ok (.invokevirtual index, 3)) (hq : pc + 3 = q) (hN : mH M = none) (w1 : Cond.methodLink (mO M) index ⟨"ShadowSpell$Sum", "of", "(LShadowSpell$Sky;)I"⟩ ∈ lw_all) (_ : SU κ (vN v) m G r E) (_ : m + 6 ≤ d) (_ : (st.map fun v => v.category).sum ≤ 8) (_ : X κ (d + 1) M q L (.int (E v) :: st) G a b Φ Ψ), X κ (d + 1) M pc L (.ref sky :: .ref r :: st) G a b Φ Ψ
theorem cat1 {x : Nat} : (List.map (fun v : Value => v.category) [.ref x]).sum ≤ 8 := by show 1 + 0 ≤ 8; omega
theorem cat2 {x : Nat} {y : Int32} : (List.map (fun v : Value => v.category) [.int y, .ref x]).sum ≤ 8 := by show 1 + (1 + 0) ≤ 8; omega
theorem cat0 : (List.map (fun v : Value => v.category) []).sum ≤ 8 := by show 0 ≤ 8; omega
theorem ev18 {m : Nat} (ih : SOf m) {κ : Kx} {d a b : Nat} {G : Gt} {Φ : Option Value → Gt → Prop} {Ψ : String → Nat → Gt → Prop} {sky l cap sb cs : Nat} {ps : Nat → Nat} {v : Sv} (h : SK κ G sky l ps cap sb cs v) {r s : Nat} {E1 : Sv → Int32} (t : gT G r = 18) (f1 : gR G 18 0 r = some s) (f2 : SU κ (vN v) m G s E1) (hm : m + 6 ≤ d) (k : Φ (some (.int (-(E1 v)))) G) : X κ (d + 1) mX21_of 0 [some (.ref r), some (.ref sky)] [] G a b Φ Ψ :=
  s18_ok t f1 (fun k9 => ih h 8 dX21_of_5 rfl rfl q2349 f2 hm cat0 k9) k
theorem ev19_0 {m : Nat} (ih : SOf m) {κ : Kx} {d a b : Nat} {G : Gt} {Φ : Option Value → Gt → Prop} {Ψ : String → Nat → Gt → Prop} {sky l cap sb cs : Nat} {ps : Nat → Nat} {v : Sv} (h : SK κ G sky l ps cap sb cs v) {r s t2 : Nat} {E1 E2 : Sv → Int32} (t : gT G r = 19) (f2 : gR G 19 0 r = some (kC κ 8)) (f3 : gR G 19 1 r = some s) (f4 : gR G 19 2 r = some t2) (f5 : SU κ (vN v) m G s E1) (f6 : SU κ (vN v) m G t2 E2) (hm : m + 6 ≤ d + 1) (k : Φ (some (.int (jn 0 (E1 v) (E2 v)))) G) : X κ (d + 2) mX22_of 0 [some (.ref r), some (.ref sky)] [] G a b Φ Ψ := by
  refine s19_0_ok t f2 f3 f4 (fun hh k9 => ?_) k
  rcases hh with ⟨rfl, rfl, rfl, rfl, rfl⟩ | ⟨rfl, rfl, rfl, rfl, rfl⟩
  · exact ih h 12 dX22_of_9 rfl rfl q2344 f5 hm cat1 k9
  · exact ih h 20 dX22_of_17 rfl rfl q2344 f6 hm cat2 k9
theorem ev19_1 {m : Nat} (ih : SOf m) {κ : Kx} {d a b : Nat} {G : Gt} {Φ : Option Value → Gt → Prop} {Ψ : String → Nat → Gt → Prop} {sky l cap sb cs : Nat} {ps : Nat → Nat} {v : Sv} (h : SK κ G sky l ps cap sb cs v) {r s t2 : Nat} {E1 E2 : Sv → Int32} (t : gT G r = 19) (f2 : gR G 19 0 r = some (kC κ 9)) (f3 : gR G 19 1 r = some s) (f4 : gR G 19 2 r = some t2) (f5 : SU κ (vN v) m G s E1) (f6 : SU κ (vN v) m G t2 E2) (hm : m + 6 ≤ d + 1) (k : Φ (some (.int (jn 1 (E1 v) (E2 v)))) G) : X κ (d + 2) mX22_of 0 [some (.ref r), some (.ref sky)] [] G a b Φ Ψ := by
  refine s19_1_ok t f2 f3 f4 (fun hh k9 => ?_) k
  rcases hh with ⟨rfl, rfl, rfl, rfl, rfl⟩ | ⟨rfl, rfl, rfl, rfl, rfl⟩
  · exact ih h 12 dX22_of_9 rfl rfl q2344 f5 hm cat1 k9
  · exact ih h 20 dX22_of_17 rfl rfl q2344 f6 hm cat2 k9
theorem ev19_2 {m : Nat} (ih : SOf m) {κ : Kx} {d a b : Nat} {G : Gt} {Φ : Option Value → Gt → Prop} {Ψ : String → Nat → Gt → Prop} {sky l cap sb cs : Nat} {ps : Nat → Nat} {v : Sv} (h : SK κ G sky l ps cap sb cs v) {r s t2 : Nat} {E1 E2 : Sv → Int32} (t : gT G r = 19) (f2 : gR G 19 0 r = some (kC κ 10)) (f3 : gR G 19 1 r = some s) (f4 : gR G 19 2 r = some t2) (f5 : SU κ (vN v) m G s E1) (f6 : SU κ (vN v) m G t2 E2) (hm : m + 6 ≤ d + 1) (k : Φ (some (.int (jn 2 (E1 v) (E2 v)))) G) : X κ (d + 2) mX22_of 0 [some (.ref r), some (.ref sky)] [] G a b Φ Ψ := by
  refine s19_2_ok t f2 f3 f4 (fun hh k9 => ?_) k
  rcases hh with ⟨rfl, rfl, rfl, rfl, rfl⟩ | ⟨rfl, rfl, rfl, rfl, rfl⟩
  · exact ih h 12 dX22_of_9 rfl rfl q2344 f5 hm cat1 k9
  · exact ih h 20 dX22_of_17 rfl rfl q2344 f6 hm cat2 k9
theorem ev19_3 {m : Nat} (ih : SOf m) {κ : Kx} {d a b : Nat} {G : Gt} {Φ : Option Value → Gt → Prop} {Ψ : String → Nat → Gt → Prop} {sky l cap sb cs : Nat} {ps : Nat → Nat} {v : Sv} (h : SK κ G sky l ps cap sb cs v) {r s t2 : Nat} {E1 E2 : Sv → Int32} (t : gT G r = 19) (f2 : gR G 19 0 r = some (kC κ 11)) (f3 : gR G 19 1 r = some s) (f4 : gR G 19 2 r = some t2) (f5 : SU κ (vN v) m G s E1) (f6 : SU κ (vN v) m G t2 E2) (hm : m + 6 ≤ d + 1) (k : Φ (some (.int (jn 3 (E1 v) (E2 v)))) G) : X κ (d + 2) mX22_of 0 [some (.ref r), some (.ref sky)] [] G a b Φ Ψ := by
  refine s19_3_ok t f2 f3 f4 (fun hh k9 => ?_) k
  rcases hh with ⟨rfl, rfl, rfl, rfl, rfl⟩ | ⟨rfl, rfl, rfl, rfl, rfl⟩
  · exact ih h 12 dX22_of_9 rfl rfl q2344 f5 hm cat1 k9
  · exact ih h 20 dX22_of_17 rfl rfl q2344 f6 hm cat2 k9
theorem ev19_4 {m : Nat} (ih : SOf m) {κ : Kx} {d a b : Nat} {G : Gt} {Φ : Option Value → Gt → Prop} {Ψ : String → Nat → Gt → Prop} {sky l cap sb cs : Nat} {ps : Nat → Nat} {v : Sv} (h : SK κ G sky l ps cap sb cs v) {r s t2 : Nat} {E1 E2 : Sv → Int32} (t : gT G r = 19) (f2 : gR G 19 0 r = some (kC κ 12)) (f3 : gR G 19 1 r = some s) (f4 : gR G 19 2 r = some t2) (f5 : SU κ (vN v) m G s E1) (f6 : SU κ (vN v) m G t2 E2) (hm : m + 6 ≤ d + 1) (k : Φ (some (.int (jn 4 (E1 v) (E2 v)))) G) : X κ (d + 2) mX22_of 0 [some (.ref r), some (.ref sky)] [] G a b Φ Ψ := by
  refine s19_4_ok t f2 f3 f4 (fun hh k9 => ?_) k
  rcases hh with ⟨rfl, rfl, rfl, rfl, rfl⟩ | ⟨rfl, rfl, rfl, rfl, rfl⟩
  · exact ih h 12 dX22_of_9 rfl rfl q2344 f5 hm cat1 k9
  · exact ih h 20 dX22_of_17 rfl rfl q2344 f6 hm cat2 k9
theorem ev19_5 {m : Nat} (ih : SOf m) {κ : Kx} {d a b : Nat} {G : Gt} {Φ : Option Value → Gt → Prop} {Ψ : String → Nat → Gt → Prop} {sky l cap sb cs : Nat} {ps : Nat → Nat} {v : Sv} (h : SK κ G sky l ps cap sb cs v) {r s t2 : Nat} {E1 E2 : Sv → Int32} (t : gT G r = 19) (f2 : gR G 19 0 r = some (kC κ 13)) (f3 : gR G 19 1 r = some s) (f4 : gR G 19 2 r = some t2) (f5 : SU κ (vN v) m G s E1) (f6 : SU κ (vN v) m G t2 E2) (hm : m + 6 ≤ d + 1) (k : Φ (some (.int (jn 5 (E1 v) (E2 v)))) G) : X κ (d + 2) mX22_of 0 [some (.ref r), some (.ref sky)] [] G a b Φ Ψ := by
  refine s19_5_ok t f2 f3 f4 (fun hh k9 => ?_) k
  rcases hh with ⟨rfl, rfl, rfl, rfl, rfl⟩ | ⟨rfl, rfl, rfl, rfl, rfl⟩
  · exact ih h 12 dX22_of_9 rfl rfl q2344 f5 hm cat1 k9
  · exact ih h 20 dX22_of_17 rfl rfl q2344 f6 hm cat2 k9
theorem ev19_6 {m : Nat} (ih : SOf m) {κ : Kx} {d a b : Nat} {G : Gt} {Φ : Option Value → Gt → Prop} {Ψ : String → Nat → Gt → Prop} {sky l cap sb cs : Nat} {ps : Nat → Nat} {v : Sv} (h : SK κ G sky l ps cap sb cs v) {r s t2 : Nat} {E1 E2 : Sv → Int32} (t : gT G r = 19) (f2 : gR G 19 0 r = some (kC κ 14)) (f3 : gR G 19 1 r = some s) (f4 : gR G 19 2 r = some t2) (f5 : SU κ (vN v) m G s E1) (f6 : SU κ (vN v) m G t2 E2) (hm : m + 6 ≤ d + 1) (k : Φ (some (.int (jn 6 (E1 v) (E2 v)))) G) : X κ (d + 2) mX22_of 0 [some (.ref r), some (.ref sky)] [] G a b Φ Ψ := by
  refine s19_6_ok t f2 f3 f4 (fun hh k9 => ?_) k
  rcases hh with ⟨rfl, rfl, rfl, rfl, rfl⟩ | ⟨rfl, rfl, rfl, rfl, rfl⟩
  · exact ih h 12 dX22_of_9 rfl rfl q2344 f5 hm cat1 k9
  · exact ih h 20 dX22_of_17 rfl rfl q2344 f6 hm cat2 k9
theorem sumOf_0 : SOf 0 := by
  intro κ d M pc L st G a b Φ Ψ sky l cap sb cs ps v h index r E q hd hq hN w1 hS
  exact hS.elim
theorem sumOf_s {m : Nat} (ih : SOf m) : SOf (m + 1) := by
  intro κ d M pc L st G a b Φ Ψ sky l cap sb cs ps v h index r E q hd hq hN w1 hS hm hcs k
  obtain ⟨d, rfl⟩ : ∃ d', d = d' + 7 := ⟨d - 7, by omega⟩
  obtain ⟨ho, hS⟩ := hS
  rcases hS with ⟨t, e⟩ | ⟨t, j, i, i', f1, f2, f3, f4, e⟩ | ⟨t, s, E1, f1, f2, e⟩ | ⟨t, j, s, t2, E1, E2, f1, f2, f3, f4, f5, f6, e⟩
  · subst e
    exact c16_call q hd hq hN w1 t hcs (s16_ok t k)
  · subst e
    refine c17_call q hd hq hN w1 t hcs ?_
    rcases (by omega : j = 0 ∨ j = 1 ∨ j = 2 ∨ j = 3 ∨ j = 4) with e | e | e | e | e <;> subst e
    · have e : ak 0 i i' v = ak 0 0 0 v := by simp [ak]
      rw [e] at k
      exact s17_0_ok h t f2 k
    · have e : ak 1 i i' v = ak 1 0 0 v := by simp [ak]
      rw [e] at k
      exact s17_1_ok h t f2 k
    · have e : ak 2 i i' v = ak 2 i 0 v := by simp [ak]
      rw [e] at k
      exact s17_2_ok h t f2 i (f3 (by omega)).2 (f3 (by omega)).1 k
    · have e : ak 3 i i' v = ak 3 i 0 v := by simp [ak]
      rw [e] at k
      exact s17_3_ok h t f2 i (f3 (by omega)).2 (f3 (by omega)).1 k
    · exact s17_4_ok h t f2 i i' (f3 (by omega)).2 (f3 (by omega)).1 (f4 rfl).2 (f4 rfl).1 k
  · subst e
    refine c18_call q hd hq hN w1 t hcs ?_
    exact ev18 ih h t f1 f2 (by omega) k
  · subst e
    refine c19_call q hd hq hN w1 t hcs ?_
    rcases (by omega : j = 0 ∨ j = 1 ∨ j = 2 ∨ j = 3 ∨ j = 4 ∨ j = 5 ∨ j = 6) with e | e | e | e | e | e | e <;> subst e
    · exact ev19_0 ih h t f2 f3 f4 f5 f6 (by omega) k
    · exact ev19_1 ih h t f2 f3 f4 f5 f6 (by omega) k
    · exact ev19_2 ih h t f2 f3 f4 f5 f6 (by omega) k
    · exact ev19_3 ih h t f2 f3 f4 f5 f6 (by omega) k
    · exact ev19_4 ih h t f2 f3 f4 f5 f6 (by omega) k
    · exact ev19_5 ih h t f2 f3 f4 f5 f6 (by omega) k
    · exact ev19_6 ih h t f2 f3 f4 f5 f6 (by omega) k
theorem sumOf_ok (m : Nat) : SOf m := by
  induction m with
  | zero => exact sumOf_0
  | succ m ih => exact sumOf_s ih

set_option maxRecDepth 100000
/-! ===== texts ===== -/
/-- the text s has n bytes f 0 .. f (n - 1), each within -128 .. 127 -/
def ST (G : Gt) (s n : Nat) (f : Nat → Int32) : Prop := gT G s = 27 ∧ gI G 27 1 s = 0 ∧ ow G s = none ∧ n ≤ 100000 ∧ ∃ v, gR G 27 0 s = some v ∧ gT G v = 101 ∧ gL G v = n ∧ ow G v = none ∧ ∀ i, i < n → eI G v i = f i
theorem ST.md {S : List Nat} {G G' : Gt} {s n : Nat} {f : Nat → Int32} (h : ST G s n f) (m : Md S G G') : ST G' s n f := by
  obtain ⟨h1, h2, h3, h4, v, h5, h6, h7, h8, h9⟩ := h
  have a1 := m.a (a := s) (by rw [h1]; decide) (fun _ _ => by rw [h3]; exact fun h => by cases h)
  have a2 := m.a (a := v) (by rw [h6]; decide) (fun _ _ => by rw [h8]; exact fun h => by cases h)
  exact ⟨a1.t.trans h1, (a1.i2 (by omega)).trans h2, a1.o.trans h3, h4, v, (a1.r 27 0).trans h5, a2.t.trans h6, a2.l.trans h7, a2.o.trans h8, fun i hi => (a2.ei i).trans (h9 i hi)⟩
theorem ST.cg {G : Gt} {s n : Nat} {f g : Nat → Int32} (h : ST G s n f) (hg : ∀ i, i < n → f i = g i) : ST G s n g := by
  obtain ⟨h1, h2, h3, h4, v, h5, h6, h7, h8, h9⟩ := h
  exact ⟨h1, h2, h3, h4, v, h5, h6, h7, h8, fun i hi => (h9 i hi).trans (hg i hi)⟩
set_option maxHeartbeats 400000 in
theorem sl1_ok {κ : Kx} {d a b : Nat} {G : Gt} {Φ : Option Value → Gt → Prop} {Ψ : String → Nat → Gt → Prop} {s n : Nat} {f : Nat → Int32} (h : ST G s n f) (k : Φ (some (.int 1)) G) : X κ d mJ5_isLatin1 0 [some (.ref s)] [] G a b Φ Ψ := by
  refine X_getsI (z := 1) 3 dJ5_isLatin1_0 rfl (by decide) q584 ?_
  refine X_if_eq 17 6 dJ5_isLatin1_3 (by decide) rfl (fun c => absurd c ((by decide))) (fun _ => ?_)
  refine X_aload_n 7 dJ5_isLatin1_6 rfl rfl ?_
  refine X_getI (t := 27) (k := 1) 10 dJ5_isLatin1_7 rfl rfl (by decide) (by decide) (Or.inl rfl) q640 rfl h.1 ?_
  rw [h.2.1]
  refine X_if_ne 17 13 dJ5_isLatin1_10 (by decide) rfl (fun c => absurd c (fun q => q rfl)) (fun _ => ?_)
  refine X_iconst (v := 1) 14 dJ5_isLatin1_13 rfl (by decide) ?_
  refine X_goto 18 dJ5_isLatin1_14 (by decide) ?_
  refine X_zret dJ5_isLatin1_18 rfl rfl ?_
  exact k
set_option maxHeartbeats 400000 in
theorem scoder_ok {κ : Kx} {d a b : Nat} {G : Gt} {Φ : Option Value → Gt → Prop} {Ψ : String → Nat → Gt → Prop} {s n : Nat} {f : Nat → Int32} (h : ST G s n f) (k : Φ (some (.int 0)) G) : X κ d mJ5_coder 0 [some (.ref s)] [] G a b Φ Ψ := by
  refine X_getsI (z := 1) 3 dJ5_coder_0 rfl (by decide) q584 ?_
  refine X_if_eq 13 6 dJ5_coder_3 (by decide) rfl (fun c => absurd c ((by decide))) (fun _ => ?_)
  refine X_aload_n 7 dJ5_coder_6 rfl rfl ?_
  refine X_getI (t := 27) (k := 1) 10 dJ5_coder_7 rfl rfl (by decide) (by decide) (Or.inl rfl) q640 rfl h.1 ?_
  rw [h.2.1]
  refine X_goto 14 dJ5_coder_10 (by decide) ?_
  refine X_zret dJ5_coder_14 rfl rfl ?_
  exact k
theorem shr0 (x : Int32) : x >>> (0 &&& 31) = x := by
  have e : ((0 : Int32) &&& 31) = 0 := by decide
  rw [e]
  exact Int32.shiftRight_zero
theorem shl0 (x : Int32) : x <<< (0 &&& 31) = x := by
  have e : ((0 : Int32) &&& 31) = 0 := by decide
  rw [e]
  exact Int32.shiftLeft_zero
set_option maxHeartbeats 400000 in
theorem slength_ok {κ : Kx} {d a b : Nat} {G : Gt} {Φ : Option Value → Gt → Prop} {Ψ : String → Nat → Gt → Prop} {s n : Nat} {f : Nat → Int32} (h : ST G s n f) (k : Φ (some (.int (nI n))) G) : X κ (d + 1) mJ5_length 0 [some (.ref s)] [] G a b Φ Ψ := by
  obtain ⟨h1, h2, h3, h4, v, h5, h6, h7, h8, h9⟩ := id h
  refine X_aload_n 1 dJ5_length_0 rfl rfl ?_
  refine X_getR (t := 27) (k := 0) 4 dJ5_length_1 rfl rfl (by decide) (by decide) (Or.inl rfl) q639 rfl h1 h5 ?_
  refine X_alen (t := 101) 5 dJ5_length_4 rfl h6 (by decide) ?_
  rw [h7]
  refine X_aload_n 6 dJ5_length_5 rfl rfl ?_
  refine X_V0z 9 dJ5_length_6 rfl rfl mo_J5_coder rfl q580 q581 q582 rfl (RV.t (t := 27) h1 (by decide) rfl) rfl (Nat.le_of_ble_eq_true rfl) rfl (Nat.le_of_ble_eq_true rfl) ?_
  refine scoder_ok h ?_
  refine X_ishr 10 dJ5_length_9 rfl ?_
  rw [shr0]
  refine X_iret dJ5_length_10 rfl ?_
  exact k
set_option maxHeartbeats 400000 in
theorem ci5_ok {κ : Kx} {d a b : Nat} {G : Gt} {Φ : Option Value → Gt → Prop} {Ψ : String → Nat → Gt → Prop} {x y : Int32} (i n : Nat) (hx : x = nI i) (hy : y = nI n) (hi : i < n) (hn : n < 2147483648) (k : Φ none G) : X κ (d + 1) mJ5_checkIndex 0 [some (.int x), some (.int y)] [] G a b Φ Ψ := by
  refine X_iload_n 1 dJ5_checkIndex_0 rfl rfl ?_
  refine X_iload_n 2 dJ5_checkIndex_1 rfl rfl ?_
  refine X_getsQ 5 dJ5_checkIndex_2 rfl q419 ?_ (fun zq => ?_)
  · refine X_S3z 8 dJ5_checkIndex_5 rfl rfl mo_J17_checkIndex rfl q442 q443 rfl (Nat.le_of_ble_eq_true rfl) rfl (Nat.le_of_ble_eq_true rfl) ?_
    refine ci17_ok i n hx hy hi hn ?_
    refine X_pop 9 dJ5_checkIndex_8 rfl rfl ?_
    refine X_vret dJ5_checkIndex_9 rfl ?_
    exact k
  · refine X_S3z 8 dJ5_checkIndex_5 rfl rfl mo_J17_checkIndex rfl q442 q443 rfl (Nat.le_of_ble_eq_true rfl) rfl (Nat.le_of_ble_eq_true rfl) ?_
    refine ci17_ok i n hx hy hi hn ?_
    refine X_pop 9 dJ5_checkIndex_8 rfl rfl ?_
    refine X_vret dJ5_checkIndex_9 rfl ?_
    exact k
set_option maxHeartbeats 400000 in
theorem lcharAt_ok {κ : Kx} {d a b : Nat} {G : Gt} {Φ : Option Value → Gt → Prop} {Ψ : String → Nat → Gt → Prop} {v n i : Nat} {x : Int32} (ht : gT G v = 101) (hl : gL G v = n) (hx : x = nI i) (hi : i < n) (hn : n < 2147483648) (k : Φ (some (.int (ch (eI G v i)))) G) : X κ (d + 2) mJ16_charAt 0 [some (.ref v), some (.int x)] [] G a b Φ Ψ := by
  refine X_iload_n 1 dJ16_charAt_0 rfl rfl ?_
  refine X_aload_n 2 dJ16_charAt_1 rfl rfl ?_
  refine X_alen (t := 101) 3 dJ16_charAt_2 rfl ht (by decide) ?_
  rw [hl]
  refine X_S2z 6 dJ16_charAt_3 rfl rfl mo_J5_checkIndex rfl q1482 q440 rfl (Nat.le_of_ble_eq_true rfl) rfl (Nat.le_of_ble_eq_true rfl) ?_
  refine ci5_ok i n hx rfl hi hn ?_
  refine X_aload_n 7 dJ16_charAt_6 rfl rfl ?_
  refine X_iload_n 8 dJ16_charAt_7 rfl rfl ?_
  refine X_baload (i) 9 dJ16_charAt_8 rfl ht hx (by omega) ?_
  refine X_sipush (v := 255) 12 dJ16_charAt_9 rfl (by decide) ?_
  refine X_iand 13 dJ16_charAt_12 rfl ?_
  refine X_i2c 14 dJ16_charAt_13 rfl (ch_i2c _) ?_
  refine X_zret dJ16_charAt_14 rfl (by show narrow .char (.int (ch _)) = _; exact congrArg Value.int (ch_i2c _)) ?_
  exact k
set_option maxHeartbeats 400000 in
theorem scharAt_ok {κ : Kx} {d a b : Nat} {G : Gt} {Φ : Option Value → Gt → Prop} {Ψ : String → Nat → Gt → Prop} {s n : Nat} {f : Nat → Int32} {x : Int32} (h : ST G s n f) (i : Nat) (hx : x = nI i) (hi : i < n) (k : Φ (some (.int (ch (f i)))) G) : X κ (d + 3) mJ5_charAt 0 [some (.ref s), some (.int x)] [] G a b Φ Ψ := by
  obtain ⟨h1, h2, h3, h4, v, h5, h6, h7, h8, h9⟩ := id h
  refine X_aload_n 1 dJ5_charAt_0 rfl rfl ?_
  refine X_V0z 4 dJ5_charAt_1 rfl rfl mo_J5_isLatin1 rfl q681 q682 q683 rfl (RV.t (t := 27) h1 (by decide) rfl) rfl (Nat.le_of_ble_eq_true rfl) rfl (Nat.le_of_ble_eq_true rfl) ?_
  refine sl1_ok h ?_
  refine X_if_eq 16 7 dJ5_charAt_4 (by decide) rfl (fun c => absurd c ((by decide))) (fun _ => ?_)
  refine X_aload_n 8 dJ5_charAt_7 rfl rfl ?_
  refine X_getR (t := 27) (k := 0) 11 dJ5_charAt_8 rfl rfl (by decide) (by decide) (Or.inl rfl) q639 rfl h1 h5 ?_
  refine X_iload_n 12 dJ5_charAt_11 rfl rfl ?_
  refine X_S2z 15 dJ5_charAt_12 rfl rfl mo_J16_charAt rfl q1479 q1480 rfl (Nat.le_of_ble_eq_true rfl) rfl (Nat.le_of_ble_eq_true rfl) ?_
  refine lcharAt_ok h6 h7 hx hi (by omega) ?_
  rw [h9 i hi]
  refine X_zret dJ5_charAt_15 rfl (by show narrow .char (.int (ch _)) = _; exact congrArg Value.int (ch_i2c _)) ?_
  exact k
/-- the first place i, i + 1, .. of k places that p marks; -1 without one -/
def fiI (p : Nat → Bool) : Nat → Nat → Int32
  | _, 0 => -1
  | i, k + 1 => if p i then nI i else fiI p (i + 1) k
theorem fiI_t {p : Nat → Bool} {i k : Nat} (h : p i = true) : fiI p i (k + 1) = nI i := by rw [fiI, if_pos h]
theorem fiI_f {p : Nat → Bool} {i k : Nat} (h : ¬ p i = true) : fiI p i (k + 1) = fiI p (i + 1) k := by rw [fiI, if_neg h]
def i2b (c : Int32) : Int32 := c.toInt8.toInt32
/-- equal texts -/
def teq (n : Nat) (f : Nat → Int32) (m : Nat) (g : Nat → Int32) : Prop := n = m ∧ ∀ i, i < n → f i = g i
set_option maxHeartbeats 400000 in
theorem lioc_ok {κ : Kx} {d a b : Nat} {G : Gt} {Φ : Option Value → Gt → Prop} {Ψ : String → Nat → Gt → Prop} {v n : Nat} {c : Int32} {f : Nat → Int32} (ht : gT G v = 101) (hl : gL G v = n) (hf : ∀ i, i < n → eI G v i = f i) (hn : n ≤ 100000) (k : Φ (some (.int (fiI (fun i => decide (f i = i2b c)) 0 n))) G) : X κ d mJ16_indexOfChar 0 [some (.ref v), some (.int c), some (.int (nI 0)), some (.int (nI n)), none, none] [] G a b Φ Ψ := by
  refine X_iload_n 1 dJ16_indexOfChar_0 rfl rfl ?_
  refine X_i2b 2 dJ16_indexOfChar_1 rfl rfl ?_
  refine X_istorew4 4 dJ16_indexOfChar_2 rfl (by decide) rfl ?_
  refine X_iload_n 5 dJ16_indexOfChar_4 rfl rfl ?_
  refine X_istorew5 7 dJ16_indexOfChar_5 rfl (by decide) rfl ?_
  have key : ∀ rem : Nat, ∀ i, i + rem = n → Φ (some (.int (fiI (fun i => decide (f i = i2b c)) i rem))) G → X κ d mJ16_indexOfChar 7 [some (.ref v), some (.int c), some (.int (nI 0)), some (.int (nI n)), some (.int (i2b c)), some (.int (nI i))] [] G a b Φ Ψ := by
    intro rem
    induction rem with
    | zero =>
      intro i hi k
      refine X_iload 9 dJ16_indexOfChar_7 rfl rfl ?_
      refine X_iload_n 10 dJ16_indexOfChar_9 rfl rfl ?_
      refine X_icmp_ge 31 13 dJ16_indexOfChar_10 (by decide) rfl (fun _ => ?_) (fun c => absurd ((by rw [show i = n by omega]; exact nI_le (Nat.le_refl _) (by omega))) c)
      refine X_iconst (v := -1) 32 dJ16_indexOfChar_31 rfl (by decide) ?_
      refine X_iret dJ16_indexOfChar_32 rfl ?_
      exact k
    | succ rem ih =>
      intro i hi k
      refine X_iload 9 dJ16_indexOfChar_7 rfl rfl ?_
      refine X_iload_n 10 dJ16_indexOfChar_9 rfl rfl ?_
      refine X_icmp_ge 31 13 dJ16_indexOfChar_10 (by decide) rfl (fun c => absurd c (nI_ge (by omega) (by omega))) (fun _ => ?_)
      refine X_aload_n 14 dJ16_indexOfChar_13 rfl rfl ?_
      refine X_iload 16 dJ16_indexOfChar_14 rfl rfl ?_
      refine X_baload (i) 17 dJ16_indexOfChar_16 rfl ht rfl (by omega) ?_
      refine X_iload 19 dJ16_indexOfChar_17 rfl rfl ?_
      rw [hf i (by omega)]
      refine X_icmp_ne 25 22 dJ16_indexOfChar_19 (by decide) rfl (fun c_19 => ?_) (fun c_19 => ?_)
      · refine X_iinc5 (v := nI (i + 1)) 28 dJ16_indexOfChar_25 rfl (nI_1 i) (by decide) rfl ?_
        refine X_goto 7 dJ16_indexOfChar_28 (by decide) ?_
        rw [fiI_f (by simpa using c_19)] at k
        exact ih (i + 1) (by omega) k
      · refine X_iload 24 dJ16_indexOfChar_22 rfl rfl ?_
        refine X_iret dJ16_indexOfChar_24 rfl ?_
        rw [fiI_t (by simpa using c_19)] at k
        exact k
  exact key n 0 (by omega) k
set_option maxHeartbeats 400000 in
theorem canE2_ok {κ : Kx} {d a b : Nat} {G : Gt} {Φ : Option Value → Gt → Prop} {Ψ : String → Nat → Gt → Prop} {c : Int32} (h1 : ¬ c < 0) (h2 : ¬ 255 < c) (k : Φ (some (.int 1)) G) : X κ d mJ16_canEncode_2 0 [some (.int c)] [] G a b Φ Ψ := by
  refine X_iload_n 1 dJ16_canEncode_2_0 rfl rfl ?_
  refine X_if_lt 15 4 dJ16_canEncode_2_1 (by decide) rfl (fun c => absurd c (h1)) (fun _ => ?_)
  refine X_iload_n 5 dJ16_canEncode_2_4 rfl rfl ?_
  refine X_sipush (v := 255) 8 dJ16_canEncode_2_5 rfl (by decide) ?_
  refine X_icmp_gt 15 11 dJ16_canEncode_2_8 (by decide) rfl (fun c => absurd c (h2)) (fun _ => ?_)
  refine X_iconst (v := 1) 12 dJ16_canEncode_2_11 rfl (by decide) ?_
  refine X_goto 16 dJ16_canEncode_2_12 (by decide) ?_
  refine X_zret dJ16_canEncode_2_16 rfl rfl ?_
  exact k
set_option maxHeartbeats 400000 in
theorem canE_ok {κ : Kx} {d a b : Nat} {G : Gt} {Φ : Option Value → Gt → Prop} {Ψ : String → Nat → Gt → Prop} {c : Int32} (h2 : ¬ 255 < c) (k : Φ (some (.int 1)) G) : X κ d mJ16_canEncode 0 [some (.int c)] [] G a b Φ Ψ := by
  refine X_iload_n 1 dJ16_canEncode_0 rfl rfl ?_
  refine X_sipush (v := 255) 4 dJ16_canEncode_1 rfl (by decide) ?_
  refine X_icmp_gt 11 7 dJ16_canEncode_4 (by decide) rfl (fun c => absurd c (h2)) (fun _ => ?_)
  refine X_iconst (v := 1) 8 dJ16_canEncode_7 rfl (by decide) ?_
  refine X_goto 12 dJ16_canEncode_8 (by decide) ?_
  refine X_zret dJ16_canEncode_12 rfl rfl ?_
  exact k
set_option maxHeartbeats 400000 in
theorem lio_ok {κ : Kx} {d a b : Nat} {G : Gt} {Φ : Option Value → Gt → Prop} {Ψ : String → Nat → Gt → Prop} {v n : Nat} {c : Int32} {f : Nat → Int32} (ht : gT G v = 101) (hl : gL G v = n) (hf : ∀ i, i < n → eI G v i = f i) (hn : n ≤ 100000) (h1 : ¬ c < 0) (h2 : ¬ 255 < c) (k : Φ (some (.int (fiI (fun i => decide (f i = i2b c)) 0 n))) G) : X κ (d + 1) mJ16_indexOf 0 [some (.ref v), some (.int c), some (.int 0), some (.int (nI n))] [] G a b Φ Ψ := by
  refine X_iload_n 1 dJ16_indexOf_0 rfl rfl ?_
  refine X_S1z 4 dJ16_indexOf_1 rfl rfl mo_J16_canEncode_2 rfl q689 q690 rfl (Nat.le_of_ble_eq_true rfl) rfl (Nat.le_of_ble_eq_true rfl) ?_
  refine canE2_ok h1 h2 ?_
  refine X_if_ne 9 7 dJ16_indexOf_4 (by decide) rfl (fun _ => ?_) (fun c => absurd c ((by decide)))
  refine X_iload_n 10 dJ16_indexOf_9 rfl rfl ?_
  refine X_iconst (v := 0) 11 dJ16_indexOf_10 rfl (by decide) ?_
  refine X_S2z 14 dJ16_indexOf_11 rfl rfl mo_J14_max rfl q692 q369 rfl (Nat.le_of_ble_eq_true rfl) rfl (Nat.le_of_ble_eq_true rfl) ?_
  refine maxN_ok 0 0 nI_0.symm nI_0.symm (by omega) (by omega) ?_
  refine X_istore2 15 dJ16_indexOf_14 rfl (by decide) rfl ?_
  refine X_iload_n 16 dJ16_indexOf_15 rfl rfl ?_
  refine X_aload_n 17 dJ16_indexOf_16 rfl rfl ?_
  refine X_alen (t := 101) 18 dJ16_indexOf_17 rfl ht (by decide) ?_
  rw [hl]
  refine X_S2z 21 dJ16_indexOf_18 rfl rfl mo_J14_min rfl q693 q387 rfl (Nat.le_of_ble_eq_true rfl) rfl (Nat.le_of_ble_eq_true rfl) ?_
  refine minN_ok n n rfl rfl (by omega) (by omega) ?_
  rw [Nat.min_self, Nat.max_self]
  refine X_istore3 22 dJ16_indexOf_21 rfl (by decide) rfl ?_
  refine X_iload_n 23 dJ16_indexOf_22 rfl rfl ?_
  refine X_iload_n 24 dJ16_indexOf_23 rfl rfl ?_
  refine X_icmp_lt 29 27 dJ16_indexOf_24 (by decide) rfl (fun c_24 => ?_) (fun c_24 => ?_)
  · refine X_aload_n 30 dJ16_indexOf_29 rfl rfl ?_
    refine X_iload_n 31 dJ16_indexOf_30 rfl rfl ?_
    refine X_iload_n 32 dJ16_indexOf_31 rfl rfl ?_
    refine X_iload_n 33 dJ16_indexOf_32 rfl rfl ?_
    refine X_S4z 36 dJ16_indexOf_33 rfl rfl mo_J16_indexOfChar rfl q694 q695 rfl (Nat.le_of_ble_eq_true rfl) rfl (Nat.le_of_ble_eq_true rfl) ?_
    refine lioc_ok ht hl hf hn ?_
    refine X_iret dJ16_indexOf_36 rfl ?_
    exact k
  · refine X_iconst (v := -1) 28 dJ16_indexOf_27 rfl (by decide) ?_
    refine X_iret dJ16_indexOf_28 rfl ?_
    have : n = 0 := by
      by_cases q : n = 0
      · exact q
      · exact absurd (nI_lt (a := 0) (b := n) (by omega) (by omega)) c_24
    rw [this] at k
    exact k
set_option maxHeartbeats 400000 in
theorem sio2_ok {κ : Kx} {d a b : Nat} {G : Gt} {Φ : Option Value → Gt → Prop} {Ψ : String → Nat → Gt → Prop} {s n : Nat} {c : Int32} {f : Nat → Int32} (h : ST G s n f) (h1 : ¬ c < 0) (h2 : ¬ 255 < c) (k : Φ (some (.int (fiI (fun i => decide (f i = i2b c)) 0 n))) G) : X κ (d + 2) mJ5_indexOf_2 0 [some (.ref s), some (.int c), some (.int 0)] [] G a b Φ Ψ := by
  obtain ⟨q1, q2, q3, q4, v, q5, q6, q7, q8, q9⟩ := id h
  refine X_aload_n 1 dJ5_indexOf_2_0 rfl rfl ?_
  refine X_V0z 4 dJ5_indexOf_2_1 rfl rfl mo_J5_isLatin1 rfl q681 q682 q683 rfl (RV.t (t := 27) q1 (by decide) rfl) rfl (Nat.le_of_ble_eq_true rfl) rfl (Nat.le_of_ble_eq_true rfl) ?_
  refine sl1_ok h ?_
  refine X_if_eq 23 7 dJ5_indexOf_2_4 (by decide) rfl (fun c => absurd c ((by decide))) (fun _ => ?_)
  refine X_aload_n 8 dJ5_indexOf_2_7 rfl rfl ?_
  refine X_getR (t := 27) (k := 0) 11 dJ5_indexOf_2_8 rfl rfl (by decide) (by decide) (Or.inl rfl) q639 rfl q1 q5 ?_
  refine X_iload_n 12 dJ5_indexOf_2_11 rfl rfl ?_
  refine X_iload_n 13 dJ5_indexOf_2_12 rfl rfl ?_
  refine X_aload_n 14 dJ5_indexOf_2_13 rfl rfl ?_
  refine X_V0z 17 dJ5_indexOf_2_14 rfl rfl mo_J5_length rfl q685 q577 q578 rfl (RV.t (t := 27) q1 (by decide) rfl) rfl (Nat.le_of_ble_eq_true rfl) rfl (Nat.le_of_ble_eq_true rfl) ?_
  refine slength_ok h ?_
  refine X_S4z 20 dJ5_indexOf_2_17 rfl rfl mo_J16_indexOf rfl q686 q687 rfl (Nat.le_of_ble_eq_true rfl) rfl (Nat.le_of_ble_eq_true rfl) ?_
  refine lio_ok q6 q7 q9 q4 h1 h2 ?_
  refine X_goto 36 dJ5_indexOf_2_20 (by decide) ?_
  refine X_iret dJ5_indexOf_2_36 rfl ?_
  exact k
set_option maxHeartbeats 400000 in
theorem sio_ok {κ : Kx} {d a b : Nat} {G : Gt} {Φ : Option Value → Gt → Prop} {Ψ : String → Nat → Gt → Prop} {s n : Nat} {c : Int32} {f : Nat → Int32} (h : ST G s n f) (h1 : ¬ c < 0) (h2 : ¬ 255 < c) (k : Φ (some (.int (fiI (fun i => decide (f i = i2b c)) 0 n))) G) : X κ (d + 3) mJ5_indexOf 0 [some (.ref s), some (.int c)] [] G a b Φ Ψ := by
  refine X_aload_n 1 dJ5_indexOf_0 rfl rfl ?_
  refine X_iload_n 2 dJ5_indexOf_1 rfl rfl ?_
  refine X_iconst (v := 0) 3 dJ5_indexOf_2 rfl (by decide) ?_
  refine X_V2z 6 dJ5_indexOf_3 rfl rfl mo_J5_indexOf_2 rfl q677 q678 q679 rfl (RV.t (t := 27) h.1 (by decide) rfl) rfl (Nat.le_of_ble_eq_true rfl) rfl (Nat.le_of_ble_eq_true rfl) ?_
  refine sio2_ok h h1 h2 ?_
  refine X_iret dJ5_indexOf_6 rfl ?_
  exact k
set_option maxHeartbeats 400000 in
theorem leq_ok {κ : Kx} {d a b : Nat} {G : Gt} {Φ : Option Value → Gt → Prop} {Ψ : String → Nat → Gt → Prop} {v u n m : Nat} {f g : Nat → Int32} {D : Decidable (teq n f m g)} (ht : gT G v = 101) (hl : gL G v = n) (hf : ∀ i, i < n → eI G v i = f i) (hn : n ≤ 100000) (ht' : gT G u = 101) (hl' : gL G u = m) (hf' : ∀ i, i < m → eI G u i = g i) (hn' : m ≤ 100000) (k : Φ (some (.int (@b01 _ D))) G) : X κ d mJ16_equals 0 [some (.ref v), some (.ref u), none] [] G a b Φ Ψ := by
  refine X_aload_n 1 dJ16_equals_0 rfl rfl ?_
  refine X_alen (t := 101) 2 dJ16_equals_1 rfl ht (by decide) ?_
  rw [hl]
  refine X_aload_n 3 dJ16_equals_2 rfl rfl ?_
  refine X_alen (t := 101) 4 dJ16_equals_3 rfl ht' (by decide) ?_
  rw [hl']
  refine X_icmp_ne 34 7 dJ16_equals_4 (by decide) rfl (fun c_4 => ?_) (fun c_4 => ?_)
  · refine X_iconst (v := 0) 35 dJ16_equals_34 rfl (by decide) ?_
    refine X_zret dJ16_equals_35 rfl rfl ?_
    rw [b01_f (fun q => by rw [q.1] at c_4; exact c_4 rfl)] at k
    exact k
  · have e := (nI_eq (by omega) (by omega)).mp c_4
    subst e
    refine X_iconst (v := 0) 8 dJ16_equals_7 rfl (by decide) ?_
    refine X_istore2 9 dJ16_equals_8 rfl (by decide) rfl ?_
    have key : ∀ rem : Nat, ∀ i, i + rem = n → (∀ j, j < i → f j = g j) → X κ d mJ16_equals 9 [some (.ref v), some (.ref u), some (.int (nI i))] [] G a b Φ Ψ := by
      intro rem
      induction rem with
      | zero =>
        intro i hi hq
        refine X_iload_n 10 dJ16_equals_9 rfl rfl ?_
        refine X_aload_n 11 dJ16_equals_10 rfl rfl ?_
        refine X_alen (t := 101) 12 dJ16_equals_11 rfl ht (by decide) ?_
        rw [hl]
        refine X_icmp_ge 32 15 dJ16_equals_12 (by decide) rfl (fun _ => ?_) (fun c => absurd ((by rw [show i = n by omega]; exact nI_le (Nat.le_refl _) (by omega))) c)
        refine X_iconst (v := 1) 33 dJ16_equals_32 rfl (by decide) ?_
        refine X_zret dJ16_equals_33 rfl rfl ?_
        rw [b01_t ⟨rfl, fun j hj => hq j (by omega)⟩] at k
        exact k
      | succ rem ih =>
        intro i hi hq
        refine X_iload_n 10 dJ16_equals_9 rfl rfl ?_
        refine X_aload_n 11 dJ16_equals_10 rfl rfl ?_
        refine X_alen (t := 101) 12 dJ16_equals_11 rfl ht (by decide) ?_
        rw [hl]
        refine X_icmp_ge 32 15 dJ16_equals_12 (by decide) rfl (fun c => absurd c (nI_ge (by omega) (by omega))) (fun _ => ?_)
        refine X_aload_n 16 dJ16_equals_15 rfl rfl ?_
        refine X_iload_n 17 dJ16_equals_16 rfl rfl ?_
        refine X_baload (i) 18 dJ16_equals_17 rfl ht rfl (by omega) ?_
        refine X_aload_n 19 dJ16_equals_18 rfl rfl ?_
        refine X_iload_n 20 dJ16_equals_19 rfl rfl ?_
        refine X_baload (i) 21 dJ16_equals_20 rfl ht' rfl (by omega) ?_
        rw [hf i (by omega), hf' i (by omega)]
        refine X_icmp_eq 26 24 dJ16_equals_21 (by decide) rfl (fun c_21 => ?_) (fun c_21 => ?_)
        · refine X_iinc2 (v := nI (i + 1)) 29 dJ16_equals_26 rfl (nI_1 i) (by decide) rfl ?_
          refine X_goto 9 dJ16_equals_29 (by decide) ?_
          refine ih (i + 1) (by omega) (fun j hj => ?_)
          rcases Nat.lt_succ_iff_lt_or_eq.mp hj with q | q
          · exact hq j q
          · rw [q]; exact c_21
        · refine X_iconst (v := 0) 25 dJ16_equals_24 rfl (by decide) ?_
          refine X_zret dJ16_equals_25 rfl rfl ?_
          rw [b01_f (fun q => c_21 (q.2 i (by omega)))] at k
          exact k
    exact key n 0 (by omega) (fun j hj => absurd hj (Nat.not_lt_zero _))
set_option maxHeartbeats 400000 in
theorem sequals_ok {κ : Kx} {d a b : Nat} {G : Gt} {Φ : Option Value → Gt → Prop} {Ψ : String → Nat → Gt → Prop} {s t n m : Nat} {f g : Nat → Int32} {D : Decidable (teq n f m g)} (h : ST G s n f) (h' : ST G t m g) (k : Φ (some (.int (@b01 _ D))) G) : X κ (d + 1) mJ5_equals 0 [some (.ref s), some (.ref t), none] [] G a b Φ Ψ := by
  obtain ⟨q1, q2, q3, q4, v, q5, q6, q7, q8, q9⟩ := id h
  obtain ⟨p1, p2, p3, p4, u, p5, p6, p7, p8, p9⟩ := id h'
  refine X_aload_n 1 dJ5_equals_0 rfl rfl ?_
  refine X_aload_n 2 dJ5_equals_1 rfl rfl ?_
  refine X_acmp_ne 7 5 dJ5_equals_2 (by decide) rfl (fun c_2 => ?_) (fun c_2 => ?_)
  · refine X_aload_n 8 dJ5_equals_7 rfl rfl ?_
    refine X_instY (t := 27) 11 dJ5_equals_8 rfl p1 (by decide) rfl q662 (Or.inl rfl) ?_
    refine X_if_eq 54 14 dJ5_equals_11 (by decide) rfl (fun c => absurd c ((by decide))) (fun _ => ?_)
    refine X_aload_n 15 dJ5_equals_14 rfl rfl ?_
    refine X_cast (t := 27) 18 dJ5_equals_15 rfl p1 (by decide) rfl q662 (Or.inl rfl) ?_
    refine X_astore2 19 dJ5_equals_18 rfl (by decide) rfl ?_
    refine X_getsI (z := 1) 22 dJ5_equals_19 rfl (by decide) q584 ?_
    refine X_if_eq 36 25 dJ5_equals_22 (by decide) rfl (fun c => absurd c ((by decide))) (fun _ => ?_)
    refine X_aload_n 26 dJ5_equals_25 rfl rfl ?_
    refine X_getI (t := 27) (k := 1) 29 dJ5_equals_26 rfl rfl (by decide) (by decide) (Or.inl rfl) q640 rfl q1 ?_
    rw [q2]
    refine X_aload_n 30 dJ5_equals_29 rfl rfl ?_
    refine X_getI (t := 27) (k := 1) 33 dJ5_equals_30 rfl rfl (by decide) (by decide) (Or.inl rfl) q640 rfl p1 ?_
    rw [p2]
    refine X_icmp_ne 54 36 dJ5_equals_33 (by decide) rfl (fun c => absurd c (fun q => q rfl)) (fun _ => ?_)
    refine X_aload_n 37 dJ5_equals_36 rfl rfl ?_
    refine X_getR (t := 27) (k := 0) 40 dJ5_equals_37 rfl rfl (by decide) (by decide) (Or.inl rfl) q639 rfl q1 q5 ?_
    refine X_aload_n 41 dJ5_equals_40 rfl rfl ?_
    refine X_getR (t := 27) (k := 0) 44 dJ5_equals_41 rfl rfl (by decide) (by decide) (Or.inl rfl) q639 rfl p1 p5 ?_
    refine X_S2z 47 dJ5_equals_44 rfl rfl mo_J16_equals rfl q663 q664 rfl (Nat.le_of_ble_eq_true rfl) rfl (Nat.le_of_ble_eq_true rfl) ?_
    refine leq_ok (f := f) (g := g) (D := D) q6 q7 q9 q4 p6 p7 p9 p4 ?_
    refine X_if_eq 54 50 dJ5_equals_47 (by decide) rfl (fun c_47 => ?_) (fun c_47 => ?_)
    · refine X_iconst (v := 0) 55 dJ5_equals_54 rfl (by decide) ?_
      refine X_zret dJ5_equals_55 rfl rfl ?_
      first | (have e : @b01 _ D = 1 := by { unfold b01 at c_47 ⊢; split at c_47 <;> simp_all }; rw [e] at k; exact k) | (rw [c_47] at k; exact k)
    · refine X_iconst (v := 1) 51 dJ5_equals_50 rfl (by decide) ?_
      refine X_goto 55 dJ5_equals_51 (by decide) ?_
      refine X_zret dJ5_equals_55 rfl rfl ?_
      first | (have e : @b01 _ D = 1 := by { unfold b01 at c_47 ⊢; split at c_47 <;> simp_all }; rw [e] at k; exact k) | (rw [c_47] at k; exact k)
  · refine X_iconst (v := 1) 6 dJ5_equals_5 rfl (by decide) ?_
    refine X_zret dJ5_equals_6 rfl rfl ?_
    subst c_2
    cases q5.symm.trans p5
    rw [b01_t ⟨q7.symm.trans p7, fun i hi => (q9 i hi).symm.trans (p9 i (by omega))⟩] at k
    exact k

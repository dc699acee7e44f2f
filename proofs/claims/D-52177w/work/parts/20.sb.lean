set_option maxRecDepth 100000
/-! ===== string builders ===== -/
def SB (κ : Kx) (G : Gt) (s n : Nat) (f : Nat → Int32) (cap : Nat) : Prop :=
  gT G s = 28 ∧ kB κ ≤ s ∧ ow G s = some s ∧ gI G 28 1 s = 0 ∧ gI G 28 3 s = nI n ∧ (gI G 28 2 s = 0 ∨ gI G 28 2 s = 1) ∧ n ≤ cap ∧ cap ≤ 100000 ∧ ∃ v, gR G 28 0 s = some v ∧ gT G v = 101 ∧ gL G v = cap ∧ ow G v = some s ∧ kB κ ≤ v ∧ ∀ i, i < n → eI G v i = f i
theorem SB.md {κ : Kx} {S : List Nat} {G G' : Gt} {s n cap : Nat} {f : Nat → Int32} (h : SB κ G s n f cap) (m : Md S G G') (hl : s ∉ S) : SB κ G' s n f cap := by
  obtain ⟨h1, h2, h3, h4, h5, h6, h7, h8, v, v1, v2, v3, v4, v5, v6⟩ := h
  have hs : ∀ x, ow G x = some s → ∀ y ∈ S, ow G x ≠ some y := fun x hx y hy e => hl (by rw [hx] at e; cases e; exact hy)
  have a1 := m.a (a := s) (by rw [h1]; decide) (hs s h3)
  have a2 := m.a (a := v) (by rw [v2]; decide) (hs v v4)
  exact ⟨a1.t.trans h1, h2, a1.o.trans h3, (a1.i (by decide)).trans h4, (a1.i (by decide)).trans h5, by rw [a1.i (by decide)]; exact h6, h7, h8, v, (a1.r 28 0).trans v1, a2.t.trans v2, a2.l.trans v3, a2.o.trans v4, v5, fun i hi => (a2.ei i).trans (v6 i hi)⟩
theorem SB.cg {κ : Kx} {G : Gt} {s n cap : Nat} {f g : Nat → Int32} (h : SB κ G s n f cap) (hg : ∀ i, i < n → f i = g i) : SB κ G s n g cap := by
  obtain ⟨h1, h2, h3, h4, h5, h6, h7, h8, v, v1, v2, v3, v4, v5, v6⟩ := h
  exact ⟨h1, h2, h3, h4, h5, h6, h7, h8, v, v1, v2, v3, v4, v5, fun i hi => (v6 i hi).trans (hg i hi)⟩
theorem SB.cut {κ : Kx} {G : Gt} {s n m cap : Nat} {f : Nat → Int32} (h : SB κ G s n f cap) (hm : m ≤ n) : SB κ (sI (sI G 28 2 s 1) 28 3 s (nI m)) s m f cap := by
  obtain ⟨h1, h2, h3, h4, h5, h6, h7, h8, v, v1, v2, v3, v4, v5, v6⟩ := h
  refine ⟨h1, h2, h3, ?_, ?_, Or.inr ?_, by omega, h8, v, v1, v2, v3, v4, v5, fun i hi => v6 i (by omega)⟩
  · rw [gI_sI, if_neg (by omega), gI_sI, if_neg (by omega)]; exact h4
  · rw [gI_sI, if_pos ⟨rfl, rfl, rfl⟩]
  · rw [gI_sI, if_neg (by omega), gI_sI, if_pos ⟨rfl, rfl, rfl⟩]
def upF (f : Nat → Int32) (n : Nat) (c : Int32) : Nat → Int32 := fun i => if i = n then c else f i
theorem i2b_i (c : Int32) : (i2b c).toInt8.toInt32 = i2b c := by show (c.toInt8.toInt32.toInt8).toInt32 = c.toInt8.toInt32; rw [Int8.toInt8_toInt32]
def ncb (cap m : Nat) : Nat := if m ≤ cap then cap else cap + max (m - cap) (cap + 2)
set_option maxHeartbeats 400000 in
theorem sbl1_ok {κ : Kx} {d a b : Nat} {G : Gt} {Φ : Option Value → Gt → Prop} {Ψ : String → Nat → Gt → Prop} {s : Nat} (h1 : gT G s = 28) (h4 : gI G 28 1 s = 0) (k : Φ (some (.int 1)) G) : X κ d mJ3_isLatin1 0 [some (.ref s)] [] G a b Φ Ψ := by
  refine X_getsI (z := 1) 3 dJ3_isLatin1_0 rfl (by decide) q205 ?_
  refine X_if_eq 17 6 dJ3_isLatin1_3 (by decide) rfl (fun c => absurd c ((by decide))) (fun _ => ?_)
  refine X_aload_n 7 dJ3_isLatin1_6 rfl rfl ?_
  refine X_getI (t := 28) (k := 1) 10 dJ3_isLatin1_7 rfl rfl (by decide) (by decide) (Or.inl rfl) q215 rfl h1 ?_
  rw [h4]
  refine X_if_ne 17 13 dJ3_isLatin1_10 (by decide) rfl (fun c => absurd c (fun q => q rfl)) (fun _ => ?_)
  refine X_iconst (v := 1) 14 dJ3_isLatin1_13 rfl (by decide) ?_
  refine X_goto 18 dJ3_isLatin1_14 (by decide) ?_
  refine X_zret dJ3_isLatin1_18 rfl rfl ?_
  exact k
set_option maxHeartbeats 400000 in
theorem sbcoder_ok {κ : Kx} {d a b : Nat} {G : Gt} {Φ : Option Value → Gt → Prop} {Ψ : String → Nat → Gt → Prop} {s : Nat} (h1 : gT G s = 28) (h4 : gI G 28 1 s = 0) (k : Φ (some (.int 0)) G) : X κ d mJ3_getCoder 0 [some (.ref s)] [] G a b Φ Ψ := by
  refine X_getsI (z := 1) 3 dJ3_getCoder_0 rfl (by decide) q205 ?_
  refine X_if_eq 13 6 dJ3_getCoder_3 (by decide) rfl (fun c => absurd c ((by decide))) (fun _ => ?_)
  refine X_aload_n 7 dJ3_getCoder_6 rfl rfl ?_
  refine X_getI (t := 28) (k := 1) 10 dJ3_getCoder_7 rfl rfl (by decide) (by decide) (Or.inl rfl) q215 rfl h1 ?_
  rw [h4]
  refine X_goto 14 dJ3_getCoder_10 (by decide) ?_
  refine X_zret dJ3_getCoder_14 rfl rfl ?_
  exact k
set_option maxHeartbeats 400000 in
theorem sblen3_ok {κ : Kx} {d a b : Nat} {G : Gt} {Φ : Option Value → Gt → Prop} {Ψ : String → Nat → Gt → Prop} {s : Nat} (h1 : gT G s = 28) (k : Φ (some (.int (gI G 28 3 s))) G) : X κ d mJ3_length 0 [some (.ref s)] [] G a b Φ Ψ := by
  refine X_aload_n 1 dJ3_length_0 rfl rfl ?_
  refine X_getI (t := 28) (k := 3) 4 dJ3_length_1 rfl rfl (by decide) (by decide) (Or.inl rfl) q218 rfl h1 ?_
  refine X_iret dJ3_length_4 rfl ?_
  exact k
set_option maxHeartbeats 400000 in
theorem sbval_ok {κ : Kx} {d a b : Nat} {G : Gt} {Φ : Option Value → Gt → Prop} {Ψ : String → Nat → Gt → Prop} {s v : Nat} (h1 : gT G s = 28) (hv : gR G 28 0 s = some v) (k : Φ (some (.ref v)) G) : X κ d mJ3_getValue 0 [some (.ref s)] [] G a b Φ Ψ := by
  refine X_aload_n 1 dJ3_getValue_0 rfl rfl ?_
  refine X_getR (t := 28) (k := 0) 4 dJ3_getValue_1 rfl rfl (by decide) (by decide) (Or.inl rfl) q214 rfl h1 hv ?_
  refine X_aret dJ3_getValue_4 rfl (Or.inr ⟨_, rfl⟩) ?_
  exact k
set_option maxHeartbeats 400000 in
theorem sb_length_ok {κ : Kx} {d a b : Nat} {G : Gt} {Φ : Option Value → Gt → Prop} {Ψ : String → Nat → Gt → Prop} {s n cap : Nat} {f : Nat → Int32} (h : SB κ G s n f cap) (k : Φ (some (.int (nI n))) G) : X κ (d + 1) mJ4_length 0 [some (.ref s)] [] G a b Φ Ψ := by
  obtain ⟨h1, h2, h3, h4, h5, h6, h7, h8, v, v1, v2, v3, v4, v5, v6⟩ := id h
  refine X_aload_n 1 dJ4_length_0 rfl rfl ?_
  refine X_SU0z (t := 28) 4 dJ4_length_1 rfl rfl mo_J3_length rfl q469 q465 q227 q464 (by decide) rfl (by decide) h1 rfl (Nat.le_of_ble_eq_true rfl) rfl (Nat.le_of_ble_eq_true rfl) ?_
  refine sblen3_ok h1 ?_
  rw [h5]
  refine X_iret dJ4_length_4 rfl ?_
  exact k
set_option maxHeartbeats 400000 in
theorem cpb_ok {κ : Kx} {d a b : Nat} {G : Gt} {Φ : Option Value → Gt → Prop} {Ψ : String → Nat → Gt → Prop} {v m : Nat} {x : Int32} (ha : 1 ≤ a) (hb : m ≤ b) (he : gT G v = 101) (hx : x = nI m) (hm : m ≤ 60000000) (hl : gL G v < 60000000) (hne : m ≠ gL G v)
   (k : ∀ o G', gT G o = 0 → kB κ ≤ o → Md [] G G' → gT G' o = 101 → gL G' o = m → (∀ i, i < min (gL G v) m → eI G' o i = eI G v i) → ow G' o = none → Φ (some (.ref o)) G') : X κ (d + 1) mJ15_copyOf 0 [some (.ref v), some (.int x), none] [] G a b Φ Ψ := by
  refine X_iload_n 1 dJ15_copyOf_0 rfl rfl ?_
  refine X_aload_n 2 dJ15_copyOf_1 rfl rfl ?_
  refine X_alen (t := 101) 3 dJ15_copyOf_2 rfl he (by decide) ?_
  refine X_icmp_ne 14 6 dJ15_copyOf_3 (by decide) rfl (fun _ => ?_) (fun c => absurd c ((by rw [hx]; exact fun q => hne ((nI_eq (by omega) (by omega)).mp q))))
  refine X_iload_n 15 dJ15_copyOf_14 rfl rfl ?_
  refine X_newa (t := 101) (a' := a - 1) (b' := b - m) (m) 17 dJ15_copyOf_15 rfl q160 rfl (by decide) hx (by omega) (by omega) (by omega) (fun o h0_o hB_o => ?_)
  have neo : v ≠ o := fun q => by rw [q] at he; rw [h0_o] at he; cases he
  have t1 : gT (nw G o 101 m) v = 101 := by rw [gT_nw, if_neg neo]; exact he
  have t2 : gT (nw G o 101 m) o = 101 := by rw [gT_nw, if_pos rfl]
  have l1 : gL (nw G o 101 m) v = gL G v := by rw [gL_nw, if_neg neo]
  have l2 : gL (nw G o 101 m) o = m := by rw [gL_nw, if_pos rfl]
  refine X_astore2 18 dJ15_copyOf_17 rfl (by decide) rfl ?_
  refine X_aload_n 19 dJ15_copyOf_18 rfl rfl ?_
  refine X_iconst (v := 0) 20 dJ15_copyOf_19 rfl (by decide) ?_
  refine X_aload_n 21 dJ15_copyOf_20 rfl rfl ?_
  refine X_iconst (v := 0) 22 dJ15_copyOf_21 rfl (by decide) ?_
  refine X_aload_n 23 dJ15_copyOf_22 rfl rfl ?_
  refine X_alen (t := 101) 24 dJ15_copyOf_23 rfl t1 (by decide) ?_
  refine X_iload_n 25 dJ15_copyOf_24 rfl rfl ?_
  refine X_S2z 28 dJ15_copyOf_25 rfl rfl mo_J14_min rfl q386 q387 rfl (Nat.le_of_ble_eq_true rfl) rfl (Nat.le_of_ble_eq_true rfl) ?_
  rw [l1]
  refine minN_ok (gL G v) m rfl hx (by omega) (by omega) ?_
  refine X_copyI 0 0 (min (gL G v) m) 31 dJ15_copyOf_28 rfl q389 q391 q390 q98 (Or.inr rfl) t1 t2 hB_o nI_0.symm nI_0.symm rfl (by rw [l1]; omega) (by rw [l2]; omega) (Nat.le_of_ble_eq_true rfl) ?_
  refine X_aload_n 32 dJ15_copyOf_31 rfl rfl ?_
  refine X_aret dJ15_copyOf_32 rfl (Or.inr ⟨_, rfl⟩) ?_
  refine k o _ h0_o hB_o (((Md.rf [] G).nn h0_o).wi (Wr.n h0_o)) t2 l2 (fun i hi => ?_) ?_
  · rw [eI_wI, if_pos rfl, va_cpy, if_pos ⟨Nat.zero_le _, by omega⟩, Nat.zero_add, Nat.sub_zero, eI_nw, if_neg neo]
  · show gR (wI _ _ _) 0 0 o = none
    rw [gR_wI, gR_nw, if_pos rfl]
set_option maxHeartbeats 400000 in
theorem cklen_ok {κ : Kx} {d a b : Nat} {G : Gt} {Φ : Option Value → Gt → Prop} {Ψ : String → Nat → Gt → Prop} {m : Nat} {x y : Int32} (hx : x = 0) (hy : y = nI m) (hm : m < 2147483648) (k : Φ none G) : X κ d mJ15_checkLength 0 [some (.int x), some (.int y)] [] G a b Φ Ψ := by
  refine X_iload_n 1 dJ15_checkLength_0 rfl rfl ?_
  refine X_iload_n 2 dJ15_checkLength_1 rfl rfl ?_
  refine X_icmp_ge 37 5 dJ15_checkLength_2 (by decide) rfl (fun _ => ?_) (fun c => absurd ((by rw [hx, hy]; exact nI_pos' hm)) c)
  refine X_vret dJ15_checkLength_37 rfl ?_
  exact k
set_option maxHeartbeats 400000 in
theorem cprb_ok {κ : Kx} {d a b : Nat} {G : Gt} {Φ : Option Value → Gt → Prop} {Ψ : String → Nat → Gt → Prop} {v m : Nat} {x : Int32} (ha : 1 ≤ a) (hb : m ≤ b) (he : gT G v = 101) (hx : x = nI m) (hm : m ≤ gL G v) (hl : gL G v < 60000000)
   (k : ∀ o G', gT G o = 0 → kB κ ≤ o → Md [] G G' → gT G' o = 101 → gL G' o = m → (∀ i, i < m → eI G' o i = eI G v i) → ow G' o = none → Φ (some (.ref o)) G') : X κ (d + 1) mJ15_copyOfRangeByte 0 [some (.ref v), some (.int 0), some (.int x), none, none] [] G a b Φ Ψ := by
  refine X_iload_n 1 dJ15_copyOfRangeByte_0 rfl rfl ?_
  refine X_iload_n 2 dJ15_copyOfRangeByte_1 rfl rfl ?_
  refine X_S2z 5 dJ15_copyOfRangeByte_2 rfl rfl mo_J15_checkLength rfl q478 q479 rfl (Nat.le_of_ble_eq_true rfl) rfl (Nat.le_of_ble_eq_true rfl) ?_
  refine cklen_ok rfl hx (by omega) ?_
  refine X_iload_n 6 dJ15_copyOfRangeByte_5 rfl rfl ?_
  refine X_iload_n 7 dJ15_copyOfRangeByte_6 rfl rfl ?_
  refine X_isub 8 dJ15_copyOfRangeByte_7 rfl ?_
  rw [Int32.sub_zero]
  refine X_istore3 9 dJ15_copyOfRangeByte_8 rfl (by decide) rfl ?_
  refine X_iload_n 10 dJ15_copyOfRangeByte_9 rfl rfl ?_
  refine X_newa (t := 101) (a' := a - 1) (b' := b - m) (m) 12 dJ15_copyOfRangeByte_10 rfl q160 rfl (by decide) hx (by omega) (by omega) (by omega) (fun o h0_o hB_o => ?_)
  have neo : v ≠ o := fun q => by rw [q] at he; rw [h0_o] at he; cases he
  have t1 : gT (nw G o 101 m) v = 101 := by rw [gT_nw, if_neg neo]; exact he
  have t2 : gT (nw G o 101 m) o = 101 := by rw [gT_nw, if_pos rfl]
  have l1 : gL (nw G o 101 m) v = gL G v := by rw [gL_nw, if_neg neo]
  have l2 : gL (nw G o 101 m) o = m := by rw [gL_nw, if_pos rfl]
  refine X_astorew4 14 dJ15_copyOfRangeByte_12 rfl (by decide) rfl ?_
  refine X_aload_n 15 dJ15_copyOfRangeByte_14 rfl rfl ?_
  refine X_iload_n 16 dJ15_copyOfRangeByte_15 rfl rfl ?_
  refine X_aload 18 dJ15_copyOfRangeByte_16 rfl rfl ?_
  refine X_iconst (v := 0) 19 dJ15_copyOfRangeByte_18 rfl (by decide) ?_
  refine X_aload_n 20 dJ15_copyOfRangeByte_19 rfl rfl ?_
  refine X_alen (t := 101) 21 dJ15_copyOfRangeByte_20 rfl t1 (by decide) ?_
  refine X_iload_n 22 dJ15_copyOfRangeByte_21 rfl rfl ?_
  refine X_isub 23 dJ15_copyOfRangeByte_22 rfl ?_
  rw [Int32.sub_zero]
  refine X_iload_n 24 dJ15_copyOfRangeByte_23 rfl rfl ?_
  refine X_S2z 27 dJ15_copyOfRangeByte_24 rfl rfl mo_J14_min rfl q386 q387 rfl (Nat.le_of_ble_eq_true rfl) rfl (Nat.le_of_ble_eq_true rfl) ?_
  rw [l1]
  refine minN_ok (gL G v) m rfl hx (by omega) (by omega) ?_
  rw [Nat.min_eq_right hm]
  refine X_copyI 0 0 m 30 dJ15_copyOfRangeByte_27 rfl q389 q391 q390 q98 (Or.inr rfl) t1 t2 hB_o nI_0.symm nI_0.symm rfl (by rw [l1]; omega) (by rw [l2]; omega) (Nat.le_of_ble_eq_true rfl) ?_
  refine X_aload 32 dJ15_copyOfRangeByte_30 rfl rfl ?_
  refine X_aret dJ15_copyOfRangeByte_32 rfl (Or.inr ⟨_, rfl⟩) ?_
  refine k o _ h0_o hB_o (((Md.rf [] G).nn h0_o).wi (Wr.n h0_o)) t2 l2 (fun i hi => ?_) ?_
  · rw [eI_wI, if_pos rfl, va_cpy, if_pos ⟨Nat.zero_le _, by omega⟩, Nat.zero_add, Nat.sub_zero, eI_nw, if_neg neo]
  · show gR (wI _ _ _) 0 0 o = none
    rw [gR_wI, gR_nw, if_pos rfl]
set_option maxHeartbeats 400000 in
theorem cpr_ok {κ : Kx} {d a b : Nat} {G : Gt} {Φ : Option Value → Gt → Prop} {Ψ : String → Nat → Gt → Prop} {v m : Nat} {x : Int32} (ha : 1 ≤ a) (hb : m ≤ b) (he : gT G v = 101) (hx : x = nI m) (hm : m ≤ gL G v) (hl : gL G v < 60000000)
   (k : ∀ o G', gT G o = 0 → kB κ ≤ o → Md [] G G' → gT G' o = 101 → gL G' o = m → (∀ i, i < m → eI G' o i = eI G v i) → ow G' o = none → Φ (some (.ref o)) G') : X κ (d + 2) mJ15_copyOfRange 0 [some (.ref v), some (.int 0), some (.int x)] [] G a b Φ Ψ := by
  refine X_iload_n 1 dJ15_copyOfRange_0 rfl rfl ?_
  refine X_if_ne 10 4 dJ15_copyOfRange_1 (by decide) rfl (fun c => absurd c (fun q => q rfl)) (fun _ => ?_)
  refine X_iload_n 5 dJ15_copyOfRange_4 rfl rfl ?_
  refine X_aload_n 6 dJ15_copyOfRange_5 rfl rfl ?_
  refine X_alen (t := 101) 7 dJ15_copyOfRange_6 rfl he (by decide) ?_
  refine X_icmp_eq 17 10 dJ15_copyOfRange_7 (by decide) rfl (fun c_7 => ?_) (fun c_7 => ?_)
  · refine X_aload_n 18 dJ15_copyOfRange_17 rfl rfl ?_
    rw [hx] at c_7
    have e9 : m = gL G v := (nI_eq (by omega) (by omega)).mp c_7
    refine X_clone (a' := (a - 1)) (b' := (b - gL G v)) 21 dJ15_copyOfRange_18 rfl q379 q380 q381 q382 q383 q384 he (Nat.le_of_ble_eq_true rfl) (by omega) (by omega) (fun o h0_o hB_o => ?_)
    have t9 : gT (wI (nw G o 101 (gL G v)) o (eI G v)) o = 101 := by rw [gT_wI, gT_nw, if_pos rfl]
    refine X_castB 24 dJ15_copyOfRange_21 rfl t9 q385 ?_
    refine X_aret dJ15_copyOfRange_24 rfl (Or.inr ⟨_, rfl⟩) ?_
    refine k o _ h0_o hB_o (((Md.rf [] G).nn h0_o).wi (Wr.n h0_o)) t9 ?_ (fun i hi => ?_) ?_
    · rw [gL_wI, gL_nw, if_pos rfl]; exact e9.symm
    · rw [eI_wI, if_pos rfl]
    · show gR (wI _ _ _) 0 0 o = none
      rw [gR_wI, gR_nw, if_pos rfl]
  · refine X_aload_n 11 dJ15_copyOfRange_10 rfl rfl ?_
    refine X_iload_n 12 dJ15_copyOfRange_11 rfl rfl ?_
    refine X_iload_n 13 dJ15_copyOfRange_12 rfl rfl ?_
    refine X_S3 (a1 := 1) (b1 := m) (a2 := (a - 1)) (b2 := (b - m)) 16 dJ15_copyOfRange_13 rfl rfl mo_J15_copyOfRangeByte rfl q475 q476 rfl (Nat.le_of_ble_eq_true rfl) rfl (Nat.le_of_ble_eq_true rfl) (by omega) (by omega) ?_
    refine cprb_ok (Nat.le_refl _) (Nat.le_refl _) he hx hm hl ?_
    intro o G1 g1 g2 g3 g4 g5 g6 g7
    refine X_aret dJ15_copyOfRange_16 rfl (Or.inr ⟨_, rfl⟩) ?_
    exact k o G1 g1 g2 g3 g4 g5 g6 g7
set_option maxHeartbeats 400000 in
theorem sbnc_ok {κ : Kx} {d a b : Nat} {G : Gt} {Φ : Option Value → Gt → Prop} {Ψ : String → Nat → Gt → Prop} {s n cap m : Nat} {f : Nat → Int32} {x : Int32} (h : SB κ G s n f cap) (hx : x = nI m) (hm : cap < m) (hm2 : m ≤ 100000) (k : Φ (some (.int (nI (ncb cap m)))) G) : X κ (d + 2) mJ3_newCapacity 0 [some (.ref s), some (.int x), none, none, none, none] [] G a b Φ Ψ := by
  obtain ⟨h1, h2, h3, h4, h5, h6, h7, h8, v, v1, v2, v3, v4, v5, v6⟩ := id h
  refine X_aload_n 1 dJ3_newCapacity_0 rfl rfl ?_
  refine X_getR (t := 28) (k := 0) 4 dJ3_newCapacity_1 rfl rfl (by decide) (by decide) (Or.inl rfl) q214 rfl h1 v1 ?_
  refine X_alen (t := 101) 5 dJ3_newCapacity_4 rfl v2 (by decide) ?_
  rw [v3]
  refine X_istore2 6 dJ3_newCapacity_5 rfl (by decide) rfl ?_
  refine X_iload_n 7 dJ3_newCapacity_6 rfl rfl ?_
  refine X_aload_n 8 dJ3_newCapacity_7 rfl rfl ?_
  refine X_getI (t := 28) (k := 1) 11 dJ3_newCapacity_8 rfl rfl (by decide) (by decide) (Or.inl rfl) q215 rfl h1 ?_
  rw [h4]
  refine X_ishl 12 dJ3_newCapacity_11 rfl ?_
  rw [shl0, hx]
  refine X_istore3 13 dJ3_newCapacity_12 rfl (by decide) rfl ?_
  refine X_iload_n 14 dJ3_newCapacity_13 rfl rfl ?_
  refine X_iload_n 15 dJ3_newCapacity_14 rfl rfl ?_
  refine X_isub 16 dJ3_newCapacity_15 rfl ?_
  rw [show nI m - nI cap = nI (m - cap) from by rw [show m = (m - cap) + cap by omega, ← nI_add, Int32.add_sub_cancel, Nat.add_sub_cancel]]
  refine X_istorew4 18 dJ3_newCapacity_16 rfl (by decide) rfl ?_
  refine X_iload_n 19 dJ3_newCapacity_18 rfl rfl ?_
  refine X_iload 21 dJ3_newCapacity_19 rfl rfl ?_
  refine X_iload_n 22 dJ3_newCapacity_21 rfl rfl ?_
  refine X_iconst (v := 2) 23 dJ3_newCapacity_22 rfl (by decide) ?_
  refine X_aload_n 24 dJ3_newCapacity_23 rfl rfl ?_
  refine X_getI (t := 28) (k := 1) 27 dJ3_newCapacity_24 rfl rfl (by decide) (by decide) (Or.inl rfl) q215 rfl h1 ?_
  rw [h4]
  refine X_ishl 28 dJ3_newCapacity_27 rfl ?_
  rw [shl0]
  refine X_iadd 29 dJ3_newCapacity_28 rfl ?_
  rw [show nI cap + 2 = nI (cap + 2) from nI_add cap 2]
  refine X_S3z 32 dJ3_newCapacity_29 rfl rfl mo_J13_newLength rfl q365 q366 rfl (Nat.le_of_ble_eq_true rfl) rfl (Nat.le_of_ble_eq_true rfl) ?_
  refine newLen_ok cap (m - cap) (cap + 2) rfl rfl rfl (by omega) (by omega) (by omega) (by omega) ?_
  rw [show cap + max (m - cap) (cap + 2) = ncb cap m by rw [ncb, if_neg (by omega)]]
  refine X_istorew5 34 dJ3_newCapacity_32 rfl (by decide) rfl ?_
  refine X_iload 36 dJ3_newCapacity_34 rfl rfl ?_
  refine X_ldc 38 dJ3_newCapacity_36 rfl q375 ?_
  refine X_icmp_ne 51 41 dJ3_newCapacity_38 (by decide) rfl (fun _ => ?_) (fun c => absurd c ((by rw [show (2147483647 : Int32) = nI 2147483647 by decide +kernel]; exact fun q => by { have := (nI_eq (a := ncb cap m) (by unfold ncb; split <;> omega) (by omega)).mp q; revert this; unfold ncb; split <;> omega })))
  refine X_iload 53 dJ3_newCapacity_51 rfl rfl ?_
  refine X_aload_n 54 dJ3_newCapacity_53 rfl rfl ?_
  refine X_getI (t := 28) (k := 1) 57 dJ3_newCapacity_54 rfl rfl (by decide) (by decide) (Or.inl rfl) q215 rfl h1 ?_
  rw [h4]
  refine X_ishr 58 dJ3_newCapacity_57 rfl ?_
  rw [shr0]
  refine X_iret dJ3_newCapacity_58 rfl ?_
  exact k
set_option maxHeartbeats 400000 in
theorem eci_ok {κ : Kx} {d a b : Nat} {G : Gt} {Φ : Option Value → Gt → Prop} {Ψ : String → Nat → Gt → Prop} {s n cap m : Nat} {f : Nat → Int32} {x : Int32} (h : SB κ G s n f cap) (hx : x = nI m) (hm2 : m ≤ 40000) (hb : cap < m → 1 ≤ a ∧ ncb cap m ≤ b) (k : ∀ G', SB κ G' s n f (ncb cap m) → Md [s] G G' → Φ none G') : X κ (d + 3) mJ3_ensureCapacityInternal 0 [some (.ref s), some (.int x), none] [] G a b Φ Ψ := by
  obtain ⟨h1, h2, h3, h4, h5, h6, h7, h8, v, v1, v2, v3, v4, v5, v6⟩ := id h
  refine X_aload_n 1 dJ3_ensureCapacityInternal_0 rfl rfl ?_
  refine X_getR (t := 28) (k := 0) 4 dJ3_ensureCapacityInternal_1 rfl rfl (by decide) (by decide) (Or.inl rfl) q214 rfl h1 v1 ?_
  refine X_alen (t := 101) 5 dJ3_ensureCapacityInternal_4 rfl v2 (by decide) ?_
  rw [v3]
  refine X_aload_n 6 dJ3_ensureCapacityInternal_5 rfl rfl ?_
  refine X_getI (t := 28) (k := 1) 9 dJ3_ensureCapacityInternal_6 rfl rfl (by decide) (by decide) (Or.inl rfl) q215 rfl h1 ?_
  rw [h4]
  refine X_ishr 10 dJ3_ensureCapacityInternal_9 rfl ?_
  rw [shr0]
  refine X_istore2 11 dJ3_ensureCapacityInternal_10 rfl (by decide) rfl ?_
  refine X_iload_n 12 dJ3_ensureCapacityInternal_11 rfl rfl ?_
  refine X_iload_n 13 dJ3_ensureCapacityInternal_12 rfl rfl ?_
  refine X_isub 14 dJ3_ensureCapacityInternal_13 rfl ?_
  by_cases hc : m ≤ cap
  · refine X_if_le 38 17 dJ3_ensureCapacityInternal_14 (by decide) rfl (fun _ => ?_) (fun c => absurd (by rw [hx]; have e9 : nI m - nI cap ≤ 0 := by { rw [Int32.le_iff_toInt_le, Int32.toInt_sub, nI_toInt (by omega), nI_toInt (by omega)]; show Int.bmod _ _ ≤ 0; rw [Int.bmod_eq_of_le (by omega) (by omega)]; omega }; exact e9) c)
    refine X_vret dJ3_ensureCapacityInternal_38 rfl ?_
    have e9 : ncb cap m = cap := if_pos hc
    rw [e9] at k
    exact k G h (Md.rf _ _)
  obtain ⟨ha1, hb1⟩ := hb (by omega)
  refine X_if_le 38 17 dJ3_ensureCapacityInternal_14 (by decide) rfl (fun c => absurd c (by rw [hx]; have e9 : ¬ nI m - nI cap ≤ 0 := by { rw [show nI m - nI cap = nI (m - cap) from by rw [show m = (m - cap) + cap by omega, ← nI_add, Int32.add_sub_cancel, Nat.add_sub_cancel]]; exact nI_nle (by omega) (by omega) }; exact e9)) (fun _ => ?_)
  refine X_aload_n 18 dJ3_ensureCapacityInternal_17 rfl rfl ?_
  refine X_aload_n 19 dJ3_ensureCapacityInternal_18 rfl rfl ?_
  refine X_getR (t := 28) (k := 0) 22 dJ3_ensureCapacityInternal_19 rfl rfl (by decide) (by decide) (Or.inl rfl) q214 rfl h1 v1 ?_
  refine X_aload_n 23 dJ3_ensureCapacityInternal_22 rfl rfl ?_
  refine X_iload_n 24 dJ3_ensureCapacityInternal_23 rfl rfl ?_
  refine X_callP (a1 := 0) (b1 := 0) (a2 := a) (b2 := b) (As := [_]) 27 dJ3_ensureCapacityInternal_24 rfl rfl mo_J3_newCapacity rfl q361 q363 q362 q395 rfl (RV.t (t := 28) h1 (by decide) rfl) rfl rfl (Nat.le_of_ble_eq_true rfl) rfl (Nat.le_of_ble_eq_true rfl) (Nat.le_of_eq (Nat.zero_add _)) (Nat.le_of_eq (Nat.zero_add _)) ?_
  refine sbnc_ok h hx (by omega) (by omega) ?_
  refine X_aload_n 28 dJ3_ensureCapacityInternal_27 rfl rfl ?_
  refine X_getI (t := 28) (k := 1) 31 dJ3_ensureCapacityInternal_28 rfl rfl (by decide) (by decide) (Or.inl rfl) q215 rfl h1 ?_
  rw [h4]
  refine X_ishl 32 dJ3_ensureCapacityInternal_31 rfl ?_
  rw [shl0]
  refine X_S2 (a1 := 1) (b1 := (ncb cap m)) (a2 := (a - 1)) (b2 := (b - ncb cap m)) 35 dJ3_ensureCapacityInternal_32 rfl rfl mo_J15_copyOf rfl q376 q377 rfl (Nat.le_of_ble_eq_true rfl) rfl (Nat.le_of_ble_eq_true rfl) (by omega) (by omega) ?_
  have hnb : ncb cap m = cap + max (m - cap) (cap + 2) := if_neg (by omega)
  refine cpb_ok (m := ncb cap m) (Nat.le_refl _) (Nat.le_refl _) v2 rfl (by omega) (by omega) (by omega) ?_
  intro o G1 g1 g2 g3 g4 g5 g6 g7
  refine X_putR (t := 28) (k := 0) 38 dJ3_ensureCapacityInternal_35 rfl rfl (by decide) (by decide) (Or.inl rfl) q214 (Or.inl rfl) rfl rfl rfl (by assumption) (g3.kt h1 (by decide)) ?_
  refine X.gh (o := o) (w := some s) g2 ?_
  refine X_vret dJ3_ensureCapacityInternal_38 rfl ?_
  have hso : s ≠ o := fun q => by rw [q, g1] at h1; cases h1
  have al := g3.a (a := s) (by rw [h1]; decide) (fun _ q => absurd q List.not_mem_nil)
  have mm : Md [s] G (so (sR G1 28 0 s (some o)) o (some s)) := (g3.s0.sr (Wr.w (List.mem_singleton.mpr rfl) h3)).gh (Wr.n g1) (by rw [gT_sR, al.t, h1]; decide)
  refine k _ ⟨al.t.trans h1, h2, ?_, ?_, ?_, ?_, by omega, by omega, o, ?_, g4, g5, ?_, g2, fun i hi => ?_⟩ mm
  · simp only [ow, so, gR_sR, hso, false_and, if_false]; rw [if_neg (by omega)]; exact (al.r 0 0).trans h3
  · exact (al.i (by decide)).trans h4
  · exact (al.i (by decide)).trans h5
  · show gI G1 28 2 s = 0 ∨ gI G1 28 2 s = 1; rw [al.i (by decide)]; exact h6
  · simp only [so, gR_sR, hso, false_and, if_false, and_self, if_true]
  · simp only [ow, so, gR_sR, and_self, if_true]
  · show eI G1 o i = _; rw [g6 i (by omega)]; exact v6 i hi
theorem SB.put {κ : Kx} {G : Gt} {s n cap v : Nat} {f : Nat → Int32} {c : Int32} (h : SB κ G s n f cap) (hv : gR G 28 0 s = some v) (hn : n < cap) : SB κ (uI (sI G 28 3 s (nI (n + 1))) v n (i2b c)) s (n + 1) (upF f n (i2b c)) cap := by
  obtain ⟨h1, h2, h3, h4, h5, h6, h7, h8, v', v1, v2, v3, v4, v5, v6⟩ := h
  cases hv.symm.trans v1
  refine ⟨h1, h2, h3, ?_, ?_, ?_, hn, h8, v, v1, v2, v3, v4, v5, fun i hi => ?_⟩
  · rw [gI_uI, gI_sI, if_neg (by omega)]; exact h4
  · rw [gI_uI, gI_sI, if_pos ⟨rfl, rfl, rfl⟩]
  · rw [gI_uI, gI_sI, if_neg (by omega)]; exact h6
  · rw [eI_uI]
    by_cases q : i = n
    · simp only [upF, q, and_self, if_true]
    · rw [if_neg (fun z => q z.2)]
      simp only [upF, q, if_false, eI_sI]; exact v6 i (by omega)
theorem SB.set {κ : Kx} {G : Gt} {s n cap v i : Nat} {f : Nat → Int32} {c : Int32} (h : SB κ G s n f cap) (hv : gR G 28 0 s = some v) (hi : i < n) : SB κ (uI G v i (i2b c)) s n (upF f i (i2b c)) cap := by
  obtain ⟨h1, h2, h3, h4, h5, h6, h7, h8, v', v1, v2, v3, v4, v5, v6⟩ := h
  cases hv.symm.trans v1
  refine ⟨h1, h2, h3, h4, h5, h6, h7, h8, v, v1, v2, v3, v4, v5, fun j hj => ?_⟩
  rw [eI_uI]
  by_cases q : j = i
  · simp only [upF, q, and_self, if_true]
  · rw [if_neg (fun z => q z.2)]
    simp only [upF, q, if_false]; exact v6 j hj
set_option maxHeartbeats 400000 in
theorem sb_append3_ok {κ : Kx} {d a b : Nat} {G : Gt} {Φ : Option Value → Gt → Prop} {Ψ : String → Nat → Gt → Prop} {s n cap : Nat} {f : Nat → Int32} {c : Int32} (h : SB κ G s n f cap) (hn : n < 30000) (hc : ¬ 255 < c) (hb : cap < n + 1 → 1 ≤ a ∧ ncb cap (n + 1) ≤ b) (k : ∀ G', SB κ G' s (n + 1) (upF f n (i2b c)) (ncb cap (n + 1)) → Md [s] G G' → Φ (some (.ref s)) G') : X κ (d + 4) mJ3_append 0 [some (.ref s), some (.int c)] [] G a b Φ Ψ := by
  refine X_aload_n 1 dJ3_append_0 rfl rfl ?_
  refine X_aload_n 2 dJ3_append_1 rfl rfl ?_
  refine X_getI (t := 28) (k := 3) 5 dJ3_append_2 rfl rfl (by decide) (by decide) (Or.inl rfl) q218 rfl h.1 ?_
  refine X_iconst (v := 1) 6 dJ3_append_5 rfl (by decide) ?_
  refine X_iadd 7 dJ3_append_6 rfl ?_
  rw [h.2.2.2.2.1, nI_1]
  refine X_callP (a1 := a) (b1 := b) (a2 := 0) (b2 := 0) (As := [_]) 10 dJ3_append_7 rfl rfl mo_J3_ensureCapacityInternal rfl q357 q359 q358 q395 rfl (RV.t (t := 28) h.1 (by decide) rfl) rfl rfl (Nat.le_of_ble_eq_true rfl) rfl (Nat.le_of_ble_eq_true rfl) (by omega) (by omega) ?_
  refine eci_ok h rfl (by omega) hb ?_
  intro G1 h' m1
  obtain ⟨h1, h2, h3, h4, h5, h6, h7, h8, v, v1, v2, v3, v4, v5, v6⟩ := id h'
  have hcap : n < ncb cap (n + 1) := by unfold ncb; split <;> omega
  refine X_aload_n 11 dJ3_append_10 rfl rfl ?_
  refine X_U0z (owner := "java/lang/AbstractStringBuilder") 14 dJ3_append_11 rfl rfl mo_J3_isLatin1 rfl q392 q394 q395 q393 (Or.inl rfl) (by decide) rfl (RV.t (t := 28) h1 (by decide) rfl) rfl (Nat.le_of_ble_eq_true rfl) rfl (Nat.le_of_ble_eq_true rfl) ?_
  refine sbl1_ok h1 h4 ?_
  refine X_if_eq 45 17 dJ3_append_14 (by decide) rfl (fun c => absurd c ((by decide))) (fun _ => ?_)
  refine X_iload_n 18 dJ3_append_17 rfl rfl ?_
  refine X_S1z 21 dJ3_append_18 rfl rfl mo_J16_canEncode rfl q397 q398 rfl (Nat.le_of_ble_eq_true rfl) rfl (Nat.le_of_ble_eq_true rfl) ?_
  refine canE_ok hc ?_
  refine X_if_eq 45 24 dJ3_append_21 (by decide) rfl (fun c => absurd c ((by decide))) (fun _ => ?_)
  refine X_aload_n 25 dJ3_append_24 rfl rfl ?_
  refine X_getR (t := 28) (k := 0) 28 dJ3_append_25 rfl rfl (by decide) (by decide) (Or.inl rfl) q214 rfl h1 v1 ?_
  refine X_aload_n 29 dJ3_append_28 rfl rfl ?_
  refine X_dup 30 dJ3_append_29 rfl rfl ?_
  refine X_getI (t := 28) (k := 3) 33 dJ3_append_30 rfl rfl (by decide) (by decide) (Or.inl rfl) q218 rfl h1 ?_
  rw [h5]
  refine X_dup_x1 34 dJ3_append_33 rfl rfl rfl ?_
  refine X_iconst (v := 1) 35 dJ3_append_34 rfl (by decide) ?_
  refine X_iadd 36 dJ3_append_35 rfl ?_
  rw [nI_1]
  refine X_putI (t := 28) (k := 3) 39 dJ3_append_36 rfl rfl (by decide) (by decide) (Or.inl rfl) q218 (Or.inl rfl) rfl rfl rfl h2 h1 ?_
  refine X_iload_n 40 dJ3_append_39 rfl rfl ?_
  refine X_i2b (v := i2b c) 41 dJ3_append_40 rfl rfl ?_
  refine X_bastore (n) 42 dJ3_append_41 rfl v5 v2 rfl (by rw [gL_sI, v3]; exact hcap) ?_
  refine X_goto 75 dJ3_append_42 (by decide) ?_
  refine X_aload_n 76 dJ3_append_75 rfl rfl ?_
  rw [i2b_i]
  refine X_aret dJ3_append_76 rfl (Or.inl ⟨_, rfl⟩) ?_
  exact k _ (SB.put h' v1 hcap) (m1.trans (((Md.rf [s] G1).si (Wr.w (List.mem_singleton.mpr rfl) h3)).ui (Wr.w (List.mem_singleton.mpr rfl) v4)))
set_option maxHeartbeats 400000 in
theorem sb_append_ok {κ : Kx} {d a b : Nat} {G : Gt} {Φ : Option Value → Gt → Prop} {Ψ : String → Nat → Gt → Prop} {s n cap : Nat} {f : Nat → Int32} {c : Int32} (h : SB κ G s n f cap) (hn : n < 30000) (hc : ¬ 255 < c) (hb : cap < n + 1 → 1 ≤ a ∧ ncb cap (n + 1) ≤ b) (k : ∀ G', SB κ G' s (n + 1) (upF f n (i2b c)) (ncb cap (n + 1)) → Md [s] G G' → Φ (some (.ref s)) G') : X κ (d + 5) mJ4_append 0 [some (.ref s), some (.int c)] [] G a b Φ Ψ := by
  refine X_aload_n 1 dJ4_append_0 rfl rfl ?_
  refine X_iload_n 2 dJ4_append_1 rfl rfl ?_
  refine X_SU1 (a1 := a) (b1 := b) (a2 := 0) (b2 := 0) (t := 28) 5 dJ4_append_2 rfl rfl mo_J3_append rfl q354 q3174 q227 q355 (by decide) rfl (by decide) h.1 rfl (Nat.le_of_ble_eq_true rfl) rfl (Nat.le_of_ble_eq_true rfl) (by omega) (by omega) ?_
  refine sb_append3_ok h hn hc hb ?_
  intro G1 g1 g2
  refine X_pop 6 dJ4_append_5 rfl rfl ?_
  refine X_aload_n 7 dJ4_append_6 rfl rfl ?_
  refine X_aret dJ4_append_7 rfl (Or.inl ⟨_, rfl⟩) ?_
  exact k G1 g1 g2
set_option maxHeartbeats 400000 in
theorem sb_charAt3_ok {κ : Kx} {d a b : Nat} {G : Gt} {Φ : Option Value → Gt → Prop} {Ψ : String → Nat → Gt → Prop} {s n cap i : Nat} {f : Nat → Int32} {x : Int32} (h : SB κ G s n f cap) (hx : x = nI i) (hi : i < n) (k : Φ (some (.int (ch (f i)))) G) : X κ (d + 2) mJ3_charAt 0 [some (.ref s), some (.int x), none, none, none] [] G a b Φ Ψ := by
  obtain ⟨h1, h2, h3, h4, h5, h6, h7, h8, v, v1, v2, v3, v4, v5, v6⟩ := id h
  refine X_aload_n 1 dJ3_charAt_0 rfl rfl ?_
  refine X_getI (t := 28) (k := 1) 4 dJ3_charAt_1 rfl rfl (by decide) (by decide) (Or.inl rfl) q215 rfl h1 ?_
  rw [h4]
  refine X_istore2 5 dJ3_charAt_4 rfl (by decide) rfl ?_
  refine X_aload_n 6 dJ3_charAt_5 rfl rfl ?_
  refine X_getR (t := 28) (k := 0) 9 dJ3_charAt_6 rfl rfl (by decide) (by decide) (Or.inl rfl) q214 rfl h1 v1 ?_
  refine X_astore3 10 dJ3_charAt_9 rfl (by decide) rfl ?_
  refine X_aload_n 11 dJ3_charAt_10 rfl rfl ?_
  refine X_getI (t := 28) (k := 3) 14 dJ3_charAt_11 rfl rfl (by decide) (by decide) (Or.inl rfl) q218 rfl h1 ?_
  rw [h5]
  refine X_aload_n 15 dJ3_charAt_14 rfl rfl ?_
  refine X_alen (t := 101) 16 dJ3_charAt_15 rfl v2 (by decide) ?_
  rw [v3]
  refine X_iload_n 17 dJ3_charAt_16 rfl rfl ?_
  refine X_ishr 18 dJ3_charAt_17 rfl ?_
  rw [shr0]
  refine X_S2z 21 dJ3_charAt_18 rfl rfl mo_J14_min rfl q2101 q387 rfl (Nat.le_of_ble_eq_true rfl) rfl (Nat.le_of_ble_eq_true rfl) ?_
  refine minN_ok n cap rfl rfl (by omega) (by omega) ?_
  rw [Nat.min_eq_left h7]
  refine X_istorew4 23 dJ3_charAt_21 rfl (by decide) rfl ?_
  refine X_iload_n 24 dJ3_charAt_23 rfl rfl ?_
  refine X_iload 26 dJ3_charAt_24 rfl rfl ?_
  refine X_S2z 29 dJ3_charAt_26 rfl rfl mo_J5_checkIndex rfl q2102 q440 rfl (Nat.le_of_ble_eq_true rfl) rfl (Nat.le_of_ble_eq_true rfl) ?_
  refine ci5_ok i n hx rfl hi (by omega) ?_
  refine X_iload_n 30 dJ3_charAt_29 rfl rfl ?_
  refine X_if_ne 42 33 dJ3_charAt_30 (by decide) rfl (fun c => absurd c (fun q => q rfl)) (fun _ => ?_)
  refine X_aload_n 34 dJ3_charAt_33 rfl rfl ?_
  refine X_iload_n 35 dJ3_charAt_34 rfl rfl ?_
  refine X_baload (i) 36 dJ3_charAt_35 rfl v2 hx (by omega) ?_
  rw [v6 i hi]
  refine X_sipush (v := 255) 39 dJ3_charAt_36 rfl (by decide) ?_
  refine X_iand 40 dJ3_charAt_39 rfl ?_
  refine X_i2c 41 dJ3_charAt_40 rfl (ch_i2c _) ?_
  refine X_zret dJ3_charAt_41 rfl (by show narrow .char (.int (ch _)) = _; exact congrArg Value.int (ch_i2c _)) ?_
  exact k
set_option maxHeartbeats 400000 in
theorem sb_charAt_ok {κ : Kx} {d a b : Nat} {G : Gt} {Φ : Option Value → Gt → Prop} {Ψ : String → Nat → Gt → Prop} {s n cap : Nat} {f : Nat → Int32} {x : Int32} (h : SB κ G s n f cap) (i : Nat) (hx : x = nI i) (hi : i < n) (k : Φ (some (.int (ch (f i)))) G) : X κ (d + 3) mJ4_charAt 0 [some (.ref s), some (.int x)] [] G a b Φ Ψ := by
  refine X_aload_n 1 dJ4_charAt_0 rfl rfl ?_
  refine X_iload_n 2 dJ4_charAt_1 rfl rfl ?_
  refine X_SU1z (t := 28) 5 dJ4_charAt_2 rfl rfl mo_J3_charAt rfl q2098 q3188 q227 q2099 (by decide) rfl (by decide) h.1 rfl (Nat.le_of_ble_eq_true rfl) rfl (Nat.le_of_ble_eq_true rfl) ?_
  refine sb_charAt3_ok h hx hi ?_
  refine X_zret dJ4_charAt_5 rfl (by show narrow .char (.int (ch _)) = _; exact congrArg Value.int (ch_i2c _)) ?_
  exact k
set_option maxHeartbeats 400000 in
theorem sb_setLength3_ok {κ : Kx} {d a b : Nat} {G : Gt} {Φ : Option Value → Gt → Prop} {Ψ : String → Nat → Gt → Prop} {s n cap : Nat} {f : Nat → Int32} (h : SB κ G s n f cap) (k : ∀ G', SB κ G' s 0 f cap → Md [s] G G' → Φ none G') : X κ (d + 4) mJ3_setLength 0 [some (.ref s), some (.int 0)] [] G a b Φ Ψ := by
  refine X_iload_n 1 dJ3_setLength_0 rfl rfl ?_
  refine X_if_ge 13 4 dJ3_setLength_1 (by decide) rfl (fun _ => ?_) (fun c => absurd ((by decide)) c)
  refine X_aload_n 14 dJ3_setLength_13 rfl rfl ?_
  refine X_iload_n 15 dJ3_setLength_14 rfl rfl ?_
  refine X_callP (a1 := 0) (b1 := 0) (a2 := a) (b2 := b) (As := [_]) 18 dJ3_setLength_15 rfl rfl mo_J3_ensureCapacityInternal rfl q357 q359 q358 q395 rfl (RV.t (t := 28) h.1 (by decide) rfl) rfl rfl (Nat.le_of_ble_eq_true rfl) rfl (Nat.le_of_ble_eq_true rfl) (Nat.le_of_eq (Nat.zero_add _)) (Nat.le_of_eq (Nat.zero_add _)) ?_
  refine eci_ok (m := 0) h nI_0.symm (by omega) (fun q => absurd q (Nat.not_lt_zero _)) ?_
  intro G1 h' m1
  rw [show ncb cap 0 = cap from if_pos (Nat.zero_le _)] at h'
  obtain ⟨h1, h2, h3, h4, h5, h6, h7, h8, v, v1, v2, v3, v4, v5, v6⟩ := id h'
  refine X_aload_n 19 dJ3_setLength_18 rfl rfl ?_
  refine X_getI (t := 28) (k := 3) 22 dJ3_setLength_19 rfl rfl (by decide) (by decide) (Or.inl rfl) q218 rfl h1 ?_
  rw [h5]
  refine X_iload_n 23 dJ3_setLength_22 rfl rfl ?_
  refine X_icmp_ge 63 26 dJ3_setLength_23 (by decide) rfl (fun _ => ?_) (fun c => absurd ((by rw [← nI_0]; exact nI_le (Nat.zero_le _) (by omega))) c)
  refine X_aload_n 64 dJ3_setLength_63 rfl rfl ?_
  refine X_getI (t := 28) (k := 3) 67 dJ3_setLength_64 rfl rfl (by decide) (by decide) (Or.inl rfl) q218 rfl h1 ?_
  rw [h5]
  refine X_iload_n 68 dJ3_setLength_67 rfl rfl ?_
  refine X_icmp_le 76 71 dJ3_setLength_68 (by decide) rfl (fun c_68 => ?_) (fun c_68 => ?_)
  · refine X_aload_n 77 dJ3_setLength_76 rfl rfl ?_
    refine X_iload_n 78 dJ3_setLength_77 rfl rfl ?_
    refine X_putI (t := 28) (k := 3) 81 dJ3_setLength_78 rfl rfl (by decide) (by decide) (Or.inl rfl) q218 (Or.inl rfl) rfl rfl rfl h2 h1 ?_
    refine X_vret dJ3_setLength_81 rfl ?_
    first
      | (have e0 : n = 0 := by
           by_cases q : n = 0
           · exact q
           · exact absurd c_68 (nI_nle (by omega) (by omega))
         subst e0
         refine k _ ?_ (m1.trans ((Md.rf [s] G1).si (Wr.w (List.mem_singleton.mpr rfl) h3)))
         exact ⟨h1, h2, h3, by rw [gI_sI, if_neg (by omega)]; exact h4, by rw [gI_sI, if_pos ⟨rfl, rfl, rfl⟩]; exact nI_0.symm, by rw [gI_sI, if_neg (by omega)]; exact h6, h7, h8, v, v1, v2, v3, v4, v5, fun i hi => absurd hi (Nat.not_lt_zero _)⟩)
      | (have := h'.cut (Nat.zero_le n)
         rw [nI_0] at this
         exact k _ this (m1.trans (((Md.rf [s] G1).si (Wr.w (List.mem_singleton.mpr rfl) h3)).si (Wr.w (List.mem_singleton.mpr rfl) h3))))
  · refine X_aload_n 72 dJ3_setLength_71 rfl rfl ?_
    refine X_iconst (v := 1) 73 dJ3_setLength_72 rfl (by decide) ?_
    refine X_putI (t := 28) (k := 2) 76 dJ3_setLength_73 rfl rfl (by decide) (by decide) (Or.inl rfl) q216 (Or.inl rfl) rfl rfl rfl h2 h1 ?_
    refine X_aload_n 77 dJ3_setLength_76 rfl rfl ?_
    refine X_iload_n 78 dJ3_setLength_77 rfl rfl ?_
    refine X_putI (t := 28) (k := 3) 81 dJ3_setLength_78 rfl rfl (by decide) (by decide) (Or.inl rfl) q218 (Or.inl rfl) rfl rfl rfl h2 h1 ?_
    refine X_vret dJ3_setLength_81 rfl ?_
    first
      | (have e0 : n = 0 := by
           by_cases q : n = 0
           · exact q
           · exact absurd c_68 (nI_nle (by omega) (by omega))
         subst e0
         refine k _ ?_ (m1.trans ((Md.rf [s] G1).si (Wr.w (List.mem_singleton.mpr rfl) h3)))
         exact ⟨h1, h2, h3, by rw [gI_sI, if_neg (by omega)]; exact h4, by rw [gI_sI, if_pos ⟨rfl, rfl, rfl⟩]; exact nI_0.symm, by rw [gI_sI, if_neg (by omega)]; exact h6, h7, h8, v, v1, v2, v3, v4, v5, fun i hi => absurd hi (Nat.not_lt_zero _)⟩)
      | (have := h'.cut (Nat.zero_le n)
         rw [nI_0] at this
         exact k _ this (m1.trans (((Md.rf [s] G1).si (Wr.w (List.mem_singleton.mpr rfl) h3)).si (Wr.w (List.mem_singleton.mpr rfl) h3))))
set_option maxHeartbeats 400000 in
theorem sb_setLength_ok {κ : Kx} {d a b : Nat} {G : Gt} {Φ : Option Value → Gt → Prop} {Ψ : String → Nat → Gt → Prop} {s n cap : Nat} {f : Nat → Int32} (h : SB κ G s n f cap) (k : ∀ G', SB κ G' s 0 f cap → Md [s] G G' → Φ none G') : X κ (d + 5) mJ4_setLength 0 [some (.ref s), some (.int 0)] [] G a b Φ Ψ := by
  refine X_aload_n 1 dJ4_setLength_0 rfl rfl ?_
  refine X_iload_n 2 dJ4_setLength_1 rfl rfl ?_
  refine X_SU1z (t := 28) 5 dJ4_setLength_2 rfl rfl mo_J3_setLength rfl q2017 q3187 q227 q2018 (by decide) rfl (by decide) h.1 rfl (Nat.le_of_ble_eq_true rfl) rfl (Nat.le_of_ble_eq_true rfl) ?_
  refine sb_setLength3_ok h ?_
  intro G1 g1 g2
  refine X_vret dJ4_setLength_5 rfl ?_
  exact k G1 g1 g2
set_option maxHeartbeats 400000 in
theorem sb_setCharAt3_ok {κ : Kx} {d a b : Nat} {G : Gt} {Φ : Option Value → Gt → Prop} {Ψ : String → Nat → Gt → Prop} {s n cap i : Nat} {f : Nat → Int32} {x c : Int32} (h : SB κ G s n f cap) (hx : x = nI i) (hi : i < n) (hc : ¬ 255 < c) (k : ∀ G', SB κ G' s n (upF f i (i2b c)) cap → Md [s] G G' → Φ none G') : X κ (d + 2) mJ3_setCharAt 0 [some (.ref s), some (.int x), some (.int c)] [] G a b Φ Ψ := by
  obtain ⟨h1, h2, h3, h4, h5, h6, h7, h8, v, v1, v2, v3, v4, v5, v6⟩ := id h
  refine X_iload_n 1 dJ3_setCharAt_0 rfl rfl ?_
  refine X_aload_n 2 dJ3_setCharAt_1 rfl rfl ?_
  refine X_getI (t := 28) (k := 3) 5 dJ3_setCharAt_2 rfl rfl (by decide) (by decide) (Or.inl rfl) q218 rfl h1 ?_
  rw [h5]
  refine X_S2z 8 dJ3_setCharAt_5 rfl rfl mo_J5_checkIndex rfl q2102 q440 rfl (Nat.le_of_ble_eq_true rfl) rfl (Nat.le_of_ble_eq_true rfl) ?_
  refine ci5_ok i n hx rfl hi (by omega) ?_
  refine X_aload_n 9 dJ3_setCharAt_8 rfl rfl ?_
  refine X_U0z (owner := "java/lang/AbstractStringBuilder") 12 dJ3_setCharAt_9 rfl rfl mo_J3_isLatin1 rfl q392 q394 q395 q393 (Or.inl rfl) (by decide) rfl (RV.t (t := 28) h1 (by decide) rfl) rfl (Nat.le_of_ble_eq_true rfl) rfl (Nat.le_of_ble_eq_true rfl) ?_
  refine sbl1_ok h1 h4 ?_
  refine X_if_eq 33 15 dJ3_setCharAt_12 (by decide) rfl (fun c => absurd c ((by decide))) (fun _ => ?_)
  refine X_iload_n 16 dJ3_setCharAt_15 rfl rfl ?_
  refine X_S1z 19 dJ3_setCharAt_16 rfl rfl mo_J16_canEncode rfl q397 q398 rfl (Nat.le_of_ble_eq_true rfl) rfl (Nat.le_of_ble_eq_true rfl) ?_
  refine canE_ok hc ?_
  refine X_if_eq 33 22 dJ3_setCharAt_19 (by decide) rfl (fun c => absurd c ((by decide))) (fun _ => ?_)
  refine X_aload_n 23 dJ3_setCharAt_22 rfl rfl ?_
  refine X_getR (t := 28) (k := 0) 26 dJ3_setCharAt_23 rfl rfl (by decide) (by decide) (Or.inl rfl) q214 rfl h1 v1 ?_
  refine X_iload_n 27 dJ3_setCharAt_26 rfl rfl ?_
  refine X_iload_n 28 dJ3_setCharAt_27 rfl rfl ?_
  refine X_i2b (v := i2b c) 29 dJ3_setCharAt_28 rfl rfl ?_
  refine X_bastore (i) 30 dJ3_setCharAt_29 rfl v5 v2 hx (by omega) ?_
  refine X_goto 58 dJ3_setCharAt_30 (by decide) ?_
  rw [i2b_i]
  refine X_vret dJ3_setCharAt_58 rfl ?_
  exact k _ (h.set v1 hi) ((Md.rf [s] G).ui (Wr.w (List.mem_singleton.mpr rfl) v4))
set_option maxHeartbeats 400000 in
theorem sb_setCharAt_ok {κ : Kx} {d a b : Nat} {G : Gt} {Φ : Option Value → Gt → Prop} {Ψ : String → Nat → Gt → Prop} {s n cap : Nat} {f : Nat → Int32} {x c : Int32} (h : SB κ G s n f cap) (i : Nat) (hx : x = nI i) (hi : i < n) (hc : ¬ 255 < c) (k : ∀ G', SB κ G' s n (upF f i (i2b c)) cap → Md [s] G G' → Φ none G') : X κ (d + 3) mJ4_setCharAt 0 [some (.ref s), some (.int x), some (.int c)] [] G a b Φ Ψ := by
  refine X_aload_n 1 dJ4_setCharAt_0 rfl rfl ?_
  refine X_iload_n 2 dJ4_setCharAt_1 rfl rfl ?_
  refine X_iload_n 3 dJ4_setCharAt_2 rfl rfl ?_
  refine X_SU2z (t := 28) 6 dJ4_setCharAt_3 rfl rfl mo_J3_setCharAt rfl q2640 q3194 q227 q2641 (by decide) rfl (by decide) h.1 rfl (Nat.le_of_ble_eq_true rfl) rfl (Nat.le_of_ble_eq_true rfl) ?_
  refine sb_setCharAt3_ok h hx hi hc ?_
  intro G1 g1 g2
  refine X_vret dJ4_setCharAt_6 rfl ?_
  exact k G1 g1 g2
set_option maxHeartbeats 400000 in
theorem asb_init_ok {κ : Kx} {d a b : Nat} {G : Gt} {Φ : Option Value → Gt → Prop} {Ψ : String → Nat → Gt → Prop} {s : Nat} (ha : 1 ≤ a) (hb : 16 ≤ b) (h1 : gT G s = 28) (h2 : kB κ ≤ s) (k : ∀ o, gT G o = 0 → kB κ ≤ o → Φ none (sI (sR (nw G o 101 16) 28 0 s (some o)) 28 1 s 0)) : X κ (d + 1) mJ3_init 0 [some (.ref s), some (.int 16)] [] G a b Φ Ψ := by
  refine X_aload_n 1 dJ3_init_0 rfl rfl ?_
  refine X_objInit 4 dJ3_init_1 rfl q204 q142 q143 (Nat.le_of_ble_eq_true rfl) ?_
  refine X_getsI (z := 1) 7 dJ3_init_4 rfl (by decide) q205 ?_
  refine X_if_eq 25 10 dJ3_init_7 (by decide) rfl (fun c => absurd c ((by decide))) (fun _ => ?_)
  refine X_aload_n 11 dJ3_init_10 rfl rfl ?_
  refine X_iload_n 12 dJ3_init_11 rfl rfl ?_
  refine X_newa (t := 101) (a' := (a - 1)) (b' := (b - 16)) (16) 14 dJ3_init_12 rfl q160 rfl (by decide) rfl (by omega) (by omega) (by omega) (fun o h0_o hB_o => ?_)
  have t1 : gT (nw G o 101 16) s = 28 := by rw [gT_nw, if_neg (fun q => by rw [q, h0_o] at h1; cases h1)]; exact h1
  refine X_putR (t := 28) (k := 0) 17 dJ3_init_14 rfl rfl (by decide) (by decide) (Or.inl rfl) q214 (Or.inl rfl) rfl rfl rfl h2 t1 ?_
  refine X_aload_n 18 dJ3_init_17 rfl rfl ?_
  refine X_iconst (v := 0) 19 dJ3_init_18 rfl (by decide) ?_
  refine X_putI (t := 28) (k := 1) 22 dJ3_init_19 rfl rfl (by decide) (by decide) (Or.inl rfl) q215 (Or.inl rfl) rfl rfl rfl h2 t1 ?_
  refine X_goto 38 dJ3_init_22 (by decide) ?_
  refine X_vret dJ3_init_38 rfl ?_
  exact k o h0_o hB_o
def sbI (G : Gt) (s o : Nat) : Gt := so (so (sI (sR (nw G o 101 16) 28 0 s (some o)) 28 1 s 0) s (some s)) o (some s)
theorem SB.new {κ : Kx} {G : Gt} {s o : Nat} {f : Nat → Int32} (h1 : gT G s = 28) (h2 : kB κ ≤ s) (h3 : gI G 28 2 s = 0) (h4 : gI G 28 3 s = 0) (ho : gT G o = 0) (hB : kB κ ≤ o) : SB κ (sbI G s o) s 0 f 16 := by
  have hne : s ≠ o := fun q => by rw [q, ho] at h1; cases h1
  refine ⟨?_, h2, ?_, ?_, ?_, Or.inl ?_, by omega, by omega, o, ?_, ?_, ?_, ?_, hB, fun i hi => absurd hi (Nat.not_lt_zero _)⟩
  · show gT (nw G o 101 16) s = 28
    rw [gT_nw, if_neg hne]; exact h1
  · simp only [ow, sbI, so, gR_sR, hne, false_and, if_false, and_self, if_true]
  · simp only [sbI, so, gI_sR, gI_sI, and_self, if_true]
  · simp only [sbI, so, gI_sR, gI_sI, gI_nw]; rw [if_neg (by omega), if_neg hne, h4]; exact nI_0.symm
  · simp only [sbI, so, gI_sR, gI_sI, gI_nw]; rw [if_neg (by omega), if_neg hne, h3]
  · simp only [sbI, so, gR_sR, gR_sI]; rw [if_neg (by omega), if_neg (by omega), if_pos (by simp)]
  · show gT (nw G o 101 16) o = 101
    rw [gT_nw, if_pos rfl]
  · show gL (nw G o 101 16) o = 16
    rw [gL_nw, if_pos rfl]
  · simp only [ow, sbI, so, gR_sR, and_self, if_true]
theorem Md.sb {S : List Nat} {G0 G : Gt} {s o : Nat} (m : Md S G0 G) (h1 : gT G s = 28) (hs : gT G0 s = 0) (ho : gT G o = 0) : Md S G0 (sbI G s o) := by
  have hne : s ≠ o := fun q => by rw [q, ho] at h1; cases h1
  have e : gT (nw G o 101 16) s = 28 := by rw [gT_nw, if_neg hne]; exact h1
  exact ((((m.nn ho).sr (Wr.n hs)).si (Wr.n hs)).gh (Wr.n hs) (by show gT (nw G o 101 16) s ≠ 0; rw [e]; decide)).gh (Wr.n (m.old ho)) (by show gT (nw G o 101 16) s ≠ 0; rw [e]; decide)
set_option maxHeartbeats 400000 in
theorem sb_init_ok {κ : Kx} {d a b : Nat} {G : Gt} {Φ : Option Value → Gt → Prop} {Ψ : String → Nat → Gt → Prop} {s : Nat} (ha : 1 ≤ a) (hb : 16 ≤ b) (h1 : gT G s = 28) (h2 : kB κ ≤ s) (k : ∀ o, gT G o = 0 → kB κ ≤ o → Φ none (sbI G s o)) : X κ (d + 2) mJ4_init 0 [some (.ref s)] [] G a b Φ Ψ := by
  refine X_aload_n 1 dJ4_init_0 rfl rfl ?_
  refine X_bipush (v := 16) 3 dJ4_init_1 rfl (by decide) ?_
  refine X_I1 (a1 := 1) (b1 := 16) (a2 := (a - 1)) (b2 := (b - 16)) 6 dJ4_init_3 rfl rfl mo_J3_init rfl rfl q201 q202 rfl rfl (Nat.le_of_ble_eq_true rfl) rfl (Nat.le_of_ble_eq_true rfl) (by omega) (by omega) ?_
  refine asb_init_ok (Nat.le_refl _) (Nat.le_refl _) h1 h2 ?_
  intro o g1 g2
  refine X.gh (o := s) (w := some s) h2 ?_
  refine X.gh (o := o) (w := some s) g2 ?_
  refine X_vret dJ4_init_6 rfl ?_
  exact k o g1 g2
set_option maxHeartbeats 400000 in
theorem sb_infl_ok {κ : Kx} {d a b : Nat} {G : Gt} {Φ : Option Value → Gt → Prop} {Ψ : String → Nat → Gt → Prop} {s t : Nat} (h1 : gT G s = 28) (h4 : gI G 28 1 s = 0) (g1 : gT G t = 28) (g4 : gI G 28 1 t = 0) (k : Φ none G) : X κ (d + 1) mJ3_inflateIfNeededFor_2 0 [some (.ref s), some (.ref t)] [] G a b Φ Ψ := by
  refine X_getsI (z := 1) 3 dJ3_inflateIfNeededFor_2_0 rfl (by decide) q205 ?_
  refine X_if_eq 21 6 dJ3_inflateIfNeededFor_2_3 (by decide) rfl (fun c => absurd c ((by decide))) (fun _ => ?_)
  refine X_aload_n 7 dJ3_inflateIfNeededFor_2_6 rfl rfl ?_
  refine X_getI (t := 28) (k := 1) 10 dJ3_inflateIfNeededFor_2_7 rfl rfl (by decide) (by decide) (Or.inl rfl) q215 rfl h1 ?_
  rw [h4]
  refine X_aload_n 11 dJ3_inflateIfNeededFor_2_10 rfl rfl ?_
  refine X_U0z (owner := "java/lang/AbstractStringBuilder") 14 dJ3_inflateIfNeededFor_2_11 rfl rfl mo_J3_getCoder rfl q2193 q2195 q2196 q2194 (Or.inl rfl) (by decide) rfl (RV.t (t := 28) g1 (by decide) rfl) rfl (Nat.le_of_ble_eq_true rfl) rfl (Nat.le_of_ble_eq_true rfl) ?_
  refine sbcoder_ok g1 g4 ?_
  refine X_icmp_eq 21 17 dJ3_inflateIfNeededFor_2_14 (by decide) rfl (fun _ => ?_) (fun c => absurd (rfl) c)
  refine X_vret dJ3_inflateIfNeededFor_2_21 rfl ?_
  exact k
set_option maxHeartbeats 400000 in
theorem sb_getBytes_ok {κ : Kx} {d a b : Nat} {G : Gt} {Φ : Option Value → Gt → Prop} {Ψ : String → Nat → Gt → Prop} {t n v u cap : Nat} {f : Nat → Int32} (h : SB κ G t n f cap) (hu : gT G u = 101) (hB : kB κ ≤ u) (hl : n ≤ gL G u) (hv : gR G 28 0 t = some v) (k : Φ none (wI G u (va_cpy (eI G v) (eI G u) 0 0 n))) : X κ (d + 1) mJ3_getBytes 0 [some (.ref t), some (.ref u), some (.int 0), some (.int 0)] [] G a b Φ Ψ := by
  obtain ⟨h1, h2, h3, h4, h5, h6, h7, h8, v9, v1, v2, v3, v4, v5, v6⟩ := id h
  cases hv.symm.trans v1
  refine X_aload_n 1 dJ3_getBytes_0 rfl rfl ?_
  refine X_getI (t := 28) (k := 1) 4 dJ3_getBytes_1 rfl rfl (by decide) (by decide) (Or.inl rfl) q215 rfl h1 ?_
  rw [h4]
  refine X_iload_n 5 dJ3_getBytes_4 rfl rfl ?_
  refine X_icmp_ne 29 8 dJ3_getBytes_5 (by decide) rfl (fun c => absurd c (fun q => q rfl)) (fun _ => ?_)
  refine X_aload_n 9 dJ3_getBytes_8 rfl rfl ?_
  refine X_getR (t := 28) (k := 0) 12 dJ3_getBytes_9 rfl rfl (by decide) (by decide) (Or.inl rfl) q214 rfl h1 hv ?_
  refine X_iconst (v := 0) 13 dJ3_getBytes_12 rfl (by decide) ?_
  refine X_aload_n 14 dJ3_getBytes_13 rfl rfl ?_
  refine X_iload_n 15 dJ3_getBytes_14 rfl rfl ?_
  refine X_iload_n 16 dJ3_getBytes_15 rfl rfl ?_
  refine X_ishl 17 dJ3_getBytes_16 rfl ?_
  rw [shl0]
  refine X_aload_n 18 dJ3_getBytes_17 rfl rfl ?_
  refine X_getI (t := 28) (k := 3) 21 dJ3_getBytes_18 rfl rfl (by decide) (by decide) (Or.inl rfl) q218 rfl h1 ?_
  rw [h5]
  refine X_iload_n 22 dJ3_getBytes_21 rfl rfl ?_
  refine X_ishl 23 dJ3_getBytes_22 rfl ?_
  rw [shl0]
  refine X_copyI 0 0 n 26 dJ3_getBytes_23 rfl q2203 q391 q390 q98 (Or.inr rfl) v2 hu hB nI_0.symm nI_0.symm rfl (by rw [v3]; omega) (by omega) (Nat.le_of_ble_eq_true rfl) ?_
  refine X_goto 43 dJ3_getBytes_26 (by decide) ?_
  refine X_vret dJ3_getBytes_43 rfl ?_
  exact k
set_option maxHeartbeats 400000 in
theorem sb_app5_ok {κ : Kx} {d a b : Nat} {G : Gt} {Φ : Option Value → Gt → Prop} {Ψ : String → Nat → Gt → Prop} {s t m cs ct : Nat} {f g : Nat → Int32} (hs : SB κ G s 0 f cs) (ht : SB κ G t m g ct) (hne : t ≠ s) (hm : m ≤ 30000) (hb : cs < m → 1 ≤ a ∧ ncb cs m ≤ b) (k : ∀ G', SB κ G' s m g (ncb cs m) → Md [s] G G' → Φ (some (.ref s)) G') : X κ (d + 4) mJ3_append_5 0 [some (.ref s), some (.ref t), none] [] G a b Φ Ψ := by
  refine X_aload_n 1 dJ3_append_5_0 rfl rfl ?_
  refine X_ifnonnull 9 dJ3_append_5_1 (by decide) ?_
  refine X_aload_n 10 dJ3_append_5_9 rfl rfl ?_
  refine X_U0z (owner := "java/lang/AbstractStringBuilder") 13 dJ3_append_5_10 rfl rfl mo_J4_length rfl q2188 q465 q466 q467 (Or.inr (Or.inr ⟨q464, _, _, _, q470⟩)) (by decide) rfl (RV.t (t := 28) ht.1 (by decide) rfl) rfl (Nat.le_of_ble_eq_true rfl) rfl (Nat.le_of_ble_eq_true rfl) ?_
  refine sb_length_ok ht ?_
  refine X_istore2 14 dJ3_append_5_13 rfl (by decide) rfl ?_
  refine X_aload_n 15 dJ3_append_5_14 rfl rfl ?_
  refine X_aload_n 16 dJ3_append_5_15 rfl rfl ?_
  refine X_getI (t := 28) (k := 3) 19 dJ3_append_5_16 rfl rfl (by decide) (by decide) (Or.inl rfl) q218 rfl hs.1 ?_
  rw [hs.2.2.2.2.1]
  refine X_iload_n 20 dJ3_append_5_19 rfl rfl ?_
  refine X_iadd 21 dJ3_append_5_20 rfl ?_
  rw [nI_add, Nat.zero_add]
  refine X_callP (a1 := a) (b1 := b) (a2 := 0) (b2 := 0) (As := [_]) 24 dJ3_append_5_21 rfl rfl mo_J3_ensureCapacityInternal rfl q357 q359 q358 q395 rfl (RV.t (t := 28) hs.1 (by decide) rfl) rfl rfl (Nat.le_of_ble_eq_true rfl) rfl (Nat.le_of_ble_eq_true rfl) (by omega) (by omega) ?_
  refine eci_ok hs rfl (by omega) hb ?_
  intro G1 h' m1
  have t' := ht.md m1 (by simp only [List.mem_singleton]; exact hne)
  obtain ⟨p1, p2, p3, p4, p5, p6, p7, p8, u, u1, u2, u3, u4, u5, u6⟩ := id t'
  obtain ⟨h1, h2, h3, h4, h5, h6, h7, h8, v, v1, v2, v3, v4, v5, v6⟩ := id h'
  have hcap : m ≤ ncb cs m := by unfold ncb; split <;> omega
  refine X_aload_n 25 dJ3_append_5_24 rfl rfl ?_
  refine X_aload_n 26 dJ3_append_5_25 rfl rfl ?_
  refine X_callP (a1 := 0) (b1 := 0) (a2 := 0) (b2 := 0) (As := [_]) 29 dJ3_append_5_26 rfl rfl mo_J3_inflateIfNeededFor_2 rfl q2189 q2191 q2190 q395 rfl (RV.t (t := 28) h1 (by decide) rfl) rfl rfl (Nat.le_of_ble_eq_true rfl) rfl (Nat.le_of_ble_eq_true rfl) (Nat.le_of_eq (Nat.zero_add _)) (Nat.le_of_eq (Nat.zero_add _)) ?_
  refine sb_infl_ok h1 h4 p1 p4 ?_
  refine X_aload_n 30 dJ3_append_5_29 rfl rfl ?_
  refine X_aload_n 31 dJ3_append_5_30 rfl rfl ?_
  refine X_getR (t := 28) (k := 0) 34 dJ3_append_5_31 rfl rfl (by decide) (by decide) (Or.inl rfl) q214 rfl h1 v1 ?_
  refine X_aload_n 35 dJ3_append_5_34 rfl rfl ?_
  refine X_getI (t := 28) (k := 3) 38 dJ3_append_5_35 rfl rfl (by decide) (by decide) (Or.inl rfl) q218 rfl h1 ?_
  rw [h5, nI_0]
  refine X_aload_n 39 dJ3_append_5_38 rfl rfl ?_
  refine X_getI (t := 28) (k := 1) 42 dJ3_append_5_39 rfl rfl (by decide) (by decide) (Or.inl rfl) q215 rfl h1 ?_
  rw [h4]
  refine X_U3z (owner := "java/lang/AbstractStringBuilder") 45 dJ3_append_5_42 rfl rfl mo_J3_getBytes rfl q2198 q2200 q2201 q2199 (Or.inl rfl) (by decide) rfl (RV.t (t := 28) p1 (by decide) rfl) rfl (Nat.le_of_ble_eq_true rfl) rfl (Nat.le_of_ble_eq_true rfl) ?_
  refine sb_getBytes_ok t' v2 v5 (by rw [v3]; exact hcap) u1 ?_
  refine X_aload_n 46 dJ3_append_5_45 rfl rfl ?_
  refine X_dup 47 dJ3_append_5_46 rfl rfl ?_
  refine X_getI (t := 28) (k := 3) 50 dJ3_append_5_47 rfl rfl (by decide) (by decide) (Or.inl rfl) q218 rfl h1 ?_
  rw [gI_wI, h5]
  refine X_iload_n 51 dJ3_append_5_50 rfl rfl ?_
  refine X_iadd 52 dJ3_append_5_51 rfl ?_
  rw [nI_add, Nat.zero_add]
  refine X_putI (t := 28) (k := 3) 55 dJ3_append_5_52 rfl rfl (by decide) (by decide) (Or.inl rfl) q218 (Or.inl rfl) rfl rfl rfl h2 h1 ?_
  refine X_aload_n 56 dJ3_append_5_55 rfl rfl ?_
  refine X_dup 57 dJ3_append_5_56 rfl rfl ?_
  refine X_getI (t := 28) (k := 2) 60 dJ3_append_5_57 rfl rfl (by decide) (by decide) (Or.inl rfl) q216 rfl h1 ?_
  refine X_aload_n 61 dJ3_append_5_60 rfl rfl ?_
  refine X_getI (t := 28) (k := 2) 64 dJ3_append_5_61 rfl rfl (by decide) (by decide) (Or.inl rfl) q216 rfl p1 ?_
  refine X_ior 65 dJ3_append_5_64 rfl ?_
  have hib : ∀ x y : Int32, (x = 0 ∨ x = 1) → (y = 0 ∨ y = 1) → (x ||| y = 0 ∨ x ||| y = 1) := by
    intro x y h9 h8
    rcases h9 with h9 | h9 <;> rcases h8 with h8 | h8 <;> subst h9 <;> subst h8 <;> decide
  have q6 := hib (gI (sI (wI G1 v (va_cpy (eI G1 u) (eI G1 v) 0 0 m)) 28 3 s (nI m)) 28 2 s) (gI (sI (wI G1 v (va_cpy (eI G1 u) (eI G1 v) 0 0 m)) 28 3 s (nI m)) 28 2 t) (by rw [gI_sI, if_neg (by omega)]; exact h6) (by rw [gI_sI, if_neg (by omega)]; exact p6)
  generalize hz : (gI (sI (wI G1 v (va_cpy (eI G1 u) (eI G1 v) 0 0 m)) 28 3 s (nI m)) 28 2 s ||| gI (sI (wI G1 v (va_cpy (eI G1 u) (eI G1 v) 0 0 m)) 28 3 s (nI m)) 28 2 t) = z at q6
  refine X_putI (t := 28) (k := 2) 68 dJ3_append_5_65 rfl rfl (by decide) (by decide) (Or.inl rfl) q216 (Or.inl rfl) rfl (by rcases q6 with q | q <;> rw [q] <;> rfl) (by rcases q6 with q | q <;> rw [q] <;> rfl) h2 h1 ?_
  refine X_aload_n 69 dJ3_append_5_68 rfl rfl ?_
  refine X_aret dJ3_append_5_69 rfl (Or.inl ⟨_, rfl⟩) ?_
  refine k _ ⟨h1, h2, h3, ?_, ?_, ?_, hcap, h8, v, v1, v2, v3, v4, v5, fun i hi => ?_⟩ (m1.trans ((((Md.rf [s] G1).wi (Wr.w (List.mem_singleton.mpr rfl) v4)).si (Wr.w (List.mem_singleton.mpr rfl) h3)).si (Wr.w (List.mem_singleton.mpr rfl) h3)))
  · rw [gI_sI, if_neg (by omega), gI_sI, if_neg (by omega)]; exact h4
  · rw [gI_sI, if_neg (by omega), gI_sI, if_pos ⟨rfl, rfl, rfl⟩]
  · rw [gI_sI, if_pos ⟨rfl, rfl, rfl⟩]; exact q6
  · rw [eI_sI, eI_sI, eI_wI, if_pos rfl, va_cpy, if_pos ⟨Nat.zero_le _, by omega⟩, Nat.zero_add, Nat.sub_zero]; exact u6 i hi
set_option maxHeartbeats 400000 in
theorem sb_app4_ok {κ : Kx} {d a b : Nat} {G : Gt} {Φ : Option Value → Gt → Prop} {Ψ : String → Nat → Gt → Prop} {s t m cs ct : Nat} {f g : Nat → Int32} (hs : SB κ G s 0 f cs) (ht : SB κ G t m g ct) (hne : t ≠ s) (hm : m ≤ 30000) (hb : cs < m → 1 ≤ a ∧ ncb cs m ≤ b) (k : ∀ G', SB κ G' s m g (ncb cs m) → Md [s] G G' → Φ (some (.ref s)) G') : X κ (d + 5) mJ3_append_4 0 [some (.ref s), some (.ref t)] [] G a b Φ Ψ := by
  refine X_aload_n 1 dJ3_append_4_0 rfl rfl ?_
  refine X_ifnonnull 9 dJ3_append_4_1 (by decide) ?_
  refine X_aload_n 10 dJ3_append_4_9 rfl rfl ?_
  refine X_instNo (t := 28) 13 dJ3_append_4_10 rfl ht.1 (by decide) rfl q2177 (by decide) ?_
  refine X_if_eq 25 16 dJ3_append_4_13 (by decide) rfl (fun _ => ?_) (fun c => absurd (rfl) c)
  refine X_aload_n 26 dJ3_append_4_25 rfl rfl ?_
  refine X_instY (t := 28) 29 dJ3_append_4_26 rfl ht.1 (by decide) rfl q2182 (Or.inr q3213) ?_
  refine X_if_eq 41 32 dJ3_append_4_29 (by decide) rfl (fun c => absurd c ((by decide))) (fun _ => ?_)
  refine X_aload_n 33 dJ3_append_4_32 rfl rfl ?_
  refine X_aload_n 34 dJ3_append_4_33 rfl rfl ?_
  refine X_cast (t := 28) 37 dJ3_append_4_34 rfl ht.1 (by decide) rfl q2182 (Or.inr q3213) ?_
  refine X_U1 (a1 := a) (b1 := b) (a2 := 0) (b2 := 0) (owner := "java/lang/AbstractStringBuilder") 40 dJ3_append_4_37 rfl rfl mo_J3_append_5 rfl q2183 q2185 q2186 q2184 (Or.inl rfl) (by decide) rfl (RV.t (t := 28) hs.1 (by decide) rfl) rfl (Nat.le_of_ble_eq_true rfl) rfl (Nat.le_of_ble_eq_true rfl) (by omega) (by omega) ?_
  refine sb_app5_ok hs ht hne hm hb ?_
  intro G1 g1 g2
  refine X_aret dJ3_append_4_40 rfl (Or.inl ⟨_, rfl⟩) ?_
  exact k G1 g1 g2
set_option maxHeartbeats 400000 in
theorem sb_appendSB_ok {κ : Kx} {d a b : Nat} {G : Gt} {Φ : Option Value → Gt → Prop} {Ψ : String → Nat → Gt → Prop} {s t m cs ct : Nat} {f g : Nat → Int32} (hs : SB κ G s 0 f cs) (ht : SB κ G t m g ct) (hne : t ≠ s) (hm : m ≤ 30000) (hb : cs < m → 1 ≤ a ∧ ncb cs m ≤ b) (k : ∀ G', SB κ G' s m g (ncb cs m) → Md [s] G G' → Φ (some (.ref s)) G') : X κ (d + 6) mJ4_append_4 0 [some (.ref s), some (.ref t)] [] G a b Φ Ψ := by
  refine X_aload_n 1 dJ4_append_4_0 rfl rfl ?_
  refine X_aload_n 2 dJ4_append_4_1 rfl rfl ?_
  refine X_SU1 (a1 := a) (b1 := b) (a2 := 0) (b2 := 0) (t := 28) 5 dJ4_append_4_2 rfl rfl mo_J3_append_4 rfl q2174 q3189 q227 q2175 (by decide) rfl (by decide) hs.1 rfl (Nat.le_of_ble_eq_true rfl) rfl (Nat.le_of_ble_eq_true rfl) (by omega) (by omega) ?_
  refine sb_app4_ok hs ht hne hm hb ?_
  intro G1 g1 g2
  refine X_pop 6 dJ4_append_4_5 rfl rfl ?_
  refine X_aload_n 7 dJ4_append_4_6 rfl rfl ?_
  refine X_aret dJ4_append_4_7 rfl (Or.inl ⟨_, rfl⟩) ?_
  exact k G1 g1 g2
theorem SB.gg {κ : Kx} {G : Gt} {s n cap t : Nat} {f : Nat → Int32} {z : Int32} (h : SB κ G s n f cap) : SB κ (sg G t z) s n f cap := by
  obtain ⟨h1, h2, h3, h4, h5, h6, h7, h8, v, v1, v2, v3, v4, v5, v6⟩ := h
  have e : ∀ k, gI (sg G t z) 28 k s = gI G 28 k s := fun k => by rw [sg, gI_sI, if_neg (by omega)]
  exact ⟨h1, h2, h3, by rw [e]; exact h4, by rw [e]; exact h5, by rw [e]; exact h6, h7, h8, v, v1, v2, v3, v4, v5, v6⟩
/-- a text that knows its hash, if it knows one -/
def SH (G : Gt) (t n : Nat) (f : Nat → Int32) : Prop := ST G t n f ∧ tg G t = hsh f n ∧ (gI G 27 2 t = 0 ∨ gI G 27 2 t = tg G t) ∧ (gI G 27 3 t = 0 ∨ tg G t = 0)
theorem SH.md {S : List Nat} {G G' : Gt} {s n : Nat} {f : Nat → Int32} (h : SH G s n f) (m : Md S G G') : SH G' s n f := by
  have a1 := m.a (a := s) (by rw [h.1.1]; decide) (fun _ _ => by rw [h.1.2.2.1]; exact fun h => by cases h)
  refine ⟨h.1.md m, a1.g.trans h.2.1, ?_, ?_⟩
  · rw [a1.g]
    rcases a1.2.2.2.2.2.2.2.1 with g | g
    · rw [g]; exact h.2.2.1
    · exact Or.inr g
  · rw [a1.g]
    rcases a1.2.2.2.2.2.2.2.2 with g | g
    · rw [g]; exact h.2.2.2
    · exact Or.inr g
set_option maxHeartbeats 400000 in
theorem str_init2_ok {κ : Kx} {d a b : Nat} {G : Gt} {Φ : Option Value → Gt → Prop} {Ψ : String → Nat → Gt → Prop} {t s n cap : Nat} {f : Nat → Int32} (h0 : SB κ G s n f cap) (ht0 : gT G t = 27) (hB : kB κ ≤ t) (how0 : ow G t = none) (hz2 : gI G 27 2 t = 0) (hz3 : gI G 27 3 t = 0) (ha : 1 ≤ a) (hb : n ≤ b) (k : ∀ G', SH G' t n f → (∀ S G0, Md S G0 G → gT G0 t = 0 → Md S G0 G') → Φ none G') : X κ (d + 3) mJ5_init_2 0 [some (.ref t), some (.ref s), some .null, none, none] [] G a b Φ Ψ := by
  refine X.gg (o := t) (w := hsh f n) hB ?_
  have h := h0.gg (t := t) (z := hsh f n)
  have ht : gT (sg G t (hsh f n)) t = 27 := ht0
  have how : ow (sg G t (hsh f n)) t = none := how0
  obtain ⟨h1, h2, h3, h4, h5, h6, h7, h8, v, v1, v2, v3, v4, v5, v6⟩ := id h
  refine X_aload_n 1 dJ5_init_2_0 rfl rfl ?_
  refine X_objInit 4 dJ5_init_2_1 rfl q457 q142 q143 (Nat.le_of_ble_eq_true rfl) ?_
  refine X_aload_n 5 dJ5_init_2_4 rfl rfl ?_
  refine X_U0z (owner := "java/lang/AbstractStringBuilder") 8 dJ5_init_2_5 rfl rfl mo_J3_getValue rfl q458 q460 q461 q459 (Or.inl rfl) (by decide) rfl (RV.t (t := 28) h1 (by decide) rfl) rfl (Nat.le_of_ble_eq_true rfl) rfl (Nat.le_of_ble_eq_true rfl) ?_
  refine sbval_ok h1 v1 ?_
  refine X_astore3 9 dJ5_init_2_8 rfl (by decide) rfl ?_
  refine X_aload_n 10 dJ5_init_2_9 rfl rfl ?_
  refine X_U0z (owner := "java/lang/AbstractStringBuilder") 13 dJ5_init_2_10 rfl rfl mo_J4_length rfl q463 q465 q466 q467 (Or.inr (Or.inr ⟨q464, _, _, _, q470⟩)) (by decide) rfl (RV.t (t := 28) h1 (by decide) rfl) rfl (Nat.le_of_ble_eq_true rfl) rfl (Nat.le_of_ble_eq_true rfl) ?_
  refine sb_length_ok h ?_
  refine X_istorew4 15 dJ5_init_2_13 rfl (by decide) rfl ?_
  refine X_aload_n 16 dJ5_init_2_15 rfl rfl ?_
  refine X_U0z (owner := "java/lang/AbstractStringBuilder") 19 dJ5_init_2_16 rfl rfl mo_J3_isLatin1 rfl q471 q394 q395 q393 (Or.inl rfl) (by decide) rfl (RV.t (t := 28) h1 (by decide) rfl) rfl (Nat.le_of_ble_eq_true rfl) rfl (Nat.le_of_ble_eq_true rfl) ?_
  refine sbl1_ok h1 h4 ?_
  refine X_if_eq 41 22 dJ5_init_2_19 (by decide) rfl (fun c => absurd c ((by decide))) (fun _ => ?_)
  refine X_aload_n 23 dJ5_init_2_22 rfl rfl ?_
  refine X_iconst (v := 0) 24 dJ5_init_2_23 rfl (by decide) ?_
  refine X_putI (t := 27) (k := 1) 27 dJ5_init_2_24 rfl rfl (by decide) (by decide) (Or.inl rfl) q640 (Or.inr ⟨rfl, rfl⟩) rfl rfl rfl hB ht ?_
  refine X_aload_n 28 dJ5_init_2_27 rfl rfl ?_
  refine X_aload_n 29 dJ5_init_2_28 rfl rfl ?_
  refine X_iconst (v := 0) 30 dJ5_init_2_29 rfl (by decide) ?_
  refine X_iload 32 dJ5_init_2_30 rfl rfl ?_
  refine X_S3 (a1 := 1) (b1 := n) (a2 := (a - 1)) (b2 := (b - n)) 35 dJ5_init_2_32 rfl rfl mo_J15_copyOfRange rfl q472 q473 rfl (Nat.le_of_ble_eq_true rfl) rfl (Nat.le_of_ble_eq_true rfl) (by omega) (by omega) ?_
  refine cpr_ok (m := n) (Nat.le_refl _) (Nat.le_refl _) v2 rfl (by rw [gL_sI, v3]; exact h7) (by rw [gL_sI, v3]; omega) ?_
  intro o G1 g1 g2 g3 g4 g5 g6 g7
  refine X_putR (t := 27) (k := 0) 38 dJ5_init_2_35 rfl rfl (by decide) (by decide) (Or.inl rfl) q639 (Or.inr ⟨rfl, rfl⟩) rfl rfl rfl hB (g3.kt ht (by decide)) ?_
  refine X_goto 97 dJ5_init_2_38 (by decide) ?_
  refine X_vret dJ5_init_2_97 rfl ?_
  have hto : t ≠ o := fun q => by have e : gT G o = 0 := g1; have e' : gT G t = 27 := ht0; rw [q, e] at e'; cases e'
  have al := g3.a (a := t) (by show gT (sg G t (hsh f n)) t ≠ 0; rw [ht]; decide) (fun _ q => absurd q List.not_mem_nil)
  have tt : tg (sI (sg G t (hsh f n)) 27 1 t 0) t = hsh f n := by simp only [tg, sg, gI_sI, and_self, if_true]; rw [if_neg (by simp)]
  have e2 : gI (sI (sg G t (hsh f n)) 27 1 t 0) 27 2 t = 0 := by rw [gI_sI, if_neg (by simp), sg, gI_sI, if_neg (by simp)]; exact hz2
  have e3 : gI (sI (sg G t (hsh f n)) 27 1 t 0) 27 3 t = 0 := by rw [gI_sI, if_neg (by simp), sg, gI_sI, if_neg (by simp)]; exact hz3
  have e4 : tg (sR G1 27 0 t (some o)) t = hsh f n := al.g.trans tt
  have hto' : ¬ (o = t) := fun q => hto q.symm
  refine k _ ⟨⟨al.t.trans ht, (al.i2 (by omega)).trans (by rw [gI_sI, if_pos ⟨rfl, rfl, rfl⟩]), ?_, by omega, o, ?_, g4, g5, ?_, fun i hi => ?_⟩, e4, ?_, ?_⟩ (fun S G0 m hm => ?_)
  · show gR (sR G1 27 0 t (some o)) 0 0 t = none
    rw [gR_sR, if_neg (by omega)]; exact (al.r 0 0).trans how
  · rw [gR_sR, if_pos ⟨rfl, rfl, rfl⟩]
  · show gR (sR G1 27 0 t (some o)) 0 0 o = none
    rw [gR_sR, if_neg (fun q => hto' q.1)]; exact g7
  · show eI G1 o i = f i
    rw [g6 i hi]; exact v6 i hi
  · rw [e4]
    rcases al.2.2.2.2.2.2.2.1 with g | g
    · left; exact g.trans e2
    · right; exact g.trans tt
  · rw [e4]
    rcases al.2.2.2.2.2.2.2.2 with g | g
    · left; exact g.trans e3
    · right; exact tt.symm.trans g
  · exact (((m.gg (Wr.n hm)).si (Wr.n hm)).trans g3.s0).sr (Wr.n hm)
set_option maxHeartbeats 400000 in
theorem str_init_ok {κ : Kx} {d a b : Nat} {G : Gt} {Φ : Option Value → Gt → Prop} {Ψ : String → Nat → Gt → Prop} {t s n cap : Nat} {f : Nat → Int32} (h0 : SB κ G s n f cap) (ht0 : gT G t = 27) (hB : kB κ ≤ t) (how0 : ow G t = none) (hz2 : gI G 27 2 t = 0) (hz3 : gI G 27 3 t = 0) (ha : 1 ≤ a) (hb : n ≤ b) (k : ∀ G', SH G' t n f → (∀ S G0, Md S G0 G → gT G0 t = 0 → Md S G0 G') → Φ none G') : X κ (d + 4) mJ5_init 0 [some (.ref t), some (.ref s)] [] G a b Φ Ψ := by
  refine X_aload_n 1 dJ5_init_0 rfl rfl ?_
  refine X_aload_n 2 dJ5_init_1 rfl rfl ?_
  refine X_null 3 dJ5_init_2 rfl ?_
  refine X_I2 (a1 := a) (b1 := b) (a2 := 0) (b2 := 0) 6 dJ5_init_3 rfl rfl mo_J5_init_2 rfl rfl q454 q455 rfl rfl (Nat.le_of_ble_eq_true rfl) rfl (Nat.le_of_ble_eq_true rfl) (by omega) (by omega) ?_
  refine str_init2_ok h0 ht0 hB how0 hz2 hz3 ha hb ?_
  intro G1 g1 g2
  refine X_vret dJ5_init_6 rfl ?_
  exact k G1 g1 g2
set_option maxHeartbeats 400000 in
theorem sb_toString_ok {κ : Kx} {d a b : Nat} {G : Gt} {Φ : Option Value → Gt → Prop} {Ψ : String → Nat → Gt → Prop} {s n cap : Nat} {f : Nat → Int32} (h : SB κ G s n f cap) (ha : 2 ≤ a) (hb : n + 4 ≤ b) (k : ∀ t G', gT G t = 0 → kB κ ≤ t → SH G' t n f → Md [] G G' → Φ (some (.ref t)) G') : X κ (d + 5) mJ4_toString 0 [some (.ref s)] [] G a b Φ Ψ := by
  refine X_new (t := 27) (a' := (a - 1)) (b' := (b - 4)) 3 dJ4_toString_0 rfl rfl (by decide) q449 q450 q80 (by omega) (by omega) (fun o h0_o hB_o => ?_)
  refine X_dup 4 dJ4_toString_3 rfl rfl ?_
  refine X_aload_n 5 dJ4_toString_4 rfl rfl ?_
  refine X_I1 (a1 := (a - 1)) (b1 := (b - 4)) (a2 := 0) (b2 := 0) 8 dJ4_toString_5 rfl rfl mo_J5_init rfl rfl q451 q452 rfl rfl (Nat.le_of_ble_eq_true rfl) rfl (Nat.le_of_ble_eq_true rfl) (by omega) (by omega) ?_
  refine str_init_ok (h.md ((Md.rf [] G).nn h0_o) List.not_mem_nil) (by rw [gT_nw, if_pos rfl]) hB_o (by show gR (nw G o 27 0) 0 0 o = none; rw [gR_nw, if_pos rfl]) (by rw [gI_nw, if_pos rfl]) (by rw [gI_nw, if_pos rfl]) (by omega) (by omega) ?_
  intro G1 g1 g2
  refine X_aret dJ4_toString_8 rfl (Or.inl ⟨_, rfl⟩) ?_
  exact k o G1 h0_o hB_o g1 (g2 [] G ((Md.rf [] G).nn h0_o) h0_o)
set_option maxHeartbeats 400000 in
theorem shc_ok {κ : Kx} {d a b : Nat} {G : Gt} {Φ : Option Value → Gt → Prop} {Ψ : String → Nat → Gt → Prop} {v n : Nat} {f : Nat → Int32} (ht : gT G v = 101) (hl : gL G v = n) (hf : ∀ i, i < n → eI G v i = f i) (hn : n ≤ 100000) (k : Φ (some (.int (hsh f n))) G) : X κ d mJ13_signedHashCode 0 [some (.int 0), some (.ref v), some (.int 0), some (.int (nI n)), none, none] [] G a b Φ Ψ := by
  refine X_iload_n 1 dJ13_signedHashCode_0 rfl rfl ?_
  refine X_iload_n 2 dJ13_signedHashCode_1 rfl rfl ?_
  refine X_iadd 3 dJ13_signedHashCode_2 rfl ?_
  rw [Int32.zero_add]
  refine X_istorew4 5 dJ13_signedHashCode_3 rfl (by decide) rfl ?_
  refine X_iload_n 6 dJ13_signedHashCode_5 rfl rfl ?_
  refine X_istorew5 8 dJ13_signedHashCode_6 rfl (by decide) rfl ?_
  have key : ∀ rem : Nat, ∀ i, i + rem = n → X κ d mJ13_signedHashCode 8 [some (.int (hsh f i)), some (.ref v), some (.int 0), some (.int (nI n)), some (.int (nI n)), some (.int (nI i))] [] G a b Φ Ψ := by
    intro rem
    induction rem with
    | zero =>
      intro i hi
      refine X_iload 10 dJ13_signedHashCode_8 rfl rfl ?_
      refine X_iload 12 dJ13_signedHashCode_10 rfl rfl ?_
      refine X_icmp_ge 35 15 dJ13_signedHashCode_12 (by decide) rfl (fun _ => ?_) (fun c => absurd ((by rw [show i = n by omega]; exact nI_le (Nat.le_refl _) (by omega))) c)
      refine X_iload_n 36 dJ13_signedHashCode_35 rfl rfl ?_
      rw [show i = n by omega]
      refine X_iret dJ13_signedHashCode_36 rfl ?_
      exact k
    | succ rem ih =>
      intro i hi
      refine X_iload 10 dJ13_signedHashCode_8 rfl rfl ?_
      refine X_iload 12 dJ13_signedHashCode_10 rfl rfl ?_
      refine X_icmp_ge 35 15 dJ13_signedHashCode_12 (by decide) rfl (fun c => absurd c (nI_ge (by omega) (by omega))) (fun _ => ?_)
      refine X_bipush (v := 31) 17 dJ13_signedHashCode_15 rfl (by decide) ?_
      refine X_iload_n 18 dJ13_signedHashCode_17 rfl rfl ?_
      refine X_imul 19 dJ13_signedHashCode_18 rfl ?_
      refine X_aload_n 20 dJ13_signedHashCode_19 rfl rfl ?_
      refine X_iload 22 dJ13_signedHashCode_20 rfl rfl ?_
      refine X_baload (i) 23 dJ13_signedHashCode_22 rfl ht rfl (by omega) ?_
      rw [hf i (by omega)]
      refine X_sipush (v := 255) 26 dJ13_signedHashCode_23 rfl (by decide) ?_
      refine X_iand 27 dJ13_signedHashCode_26 rfl ?_
      refine X_iadd 28 dJ13_signedHashCode_27 rfl ?_
      refine X_istore0 29 dJ13_signedHashCode_28 rfl (by decide) ?_
      refine X_iinc5 (v := nI (i + 1)) 32 dJ13_signedHashCode_29 rfl (nI_1 i) (by decide) rfl ?_
      refine X_goto 8 dJ13_signedHashCode_32 (by decide) ?_
      exact ih (i + 1) (by omega)
  have r0 := key n 0 (by omega)
  rw [nI_0] at r0
  exact r0
set_option maxHeartbeats 400000 in
theorem vhc_ok {κ : Kx} {d a b : Nat} {G : Gt} {Φ : Option Value → Gt → Prop} {Ψ : String → Nat → Gt → Prop} {v n : Nat} {f : Nat → Int32} (ht : gT G v = 101) (hl : gL G v = n) (hf : ∀ i, i < n → eI G v i = f i) (hn : n ≤ 100000) (k : Φ (some (.int (hsh f n))) G) : X κ (d + 1) mJ13_vectorizedHashCode 0 [some (.ref v), some (.int 0), some (.int (nI n)), some (.int 0), some (.int 4)] [] G a b Φ Ψ := by
  refine X_iload 2 dJ13_vectorizedHashCode_0 rfl rfl ?_
  refine X_tableIn 44 dJ13_vectorizedHashCode_2 (by decide) (by decide) rfl (by decide) ?_
  refine X_iload_n 45 dJ13_vectorizedHashCode_44 rfl rfl ?_
  refine X_aload_n 46 dJ13_vectorizedHashCode_45 rfl rfl ?_
  refine X_castB 49 dJ13_vectorizedHashCode_46 rfl ht q1035 ?_
  refine X_iload_n 50 dJ13_vectorizedHashCode_49 rfl rfl ?_
  refine X_iload_n 51 dJ13_vectorizedHashCode_50 rfl rfl ?_
  refine X_S4z 54 dJ13_vectorizedHashCode_51 rfl rfl mo_J13_signedHashCode rfl q1036 q1037 rfl (Nat.le_of_ble_eq_true rfl) rfl (Nat.le_of_ble_eq_true rfl) ?_
  refine shc_ok ht hl hf hn ?_
  refine X_goto 157 dJ13_vectorizedHashCode_54 (by decide) ?_
  refine X_iret dJ13_vectorizedHashCode_157 rfl ?_
  exact k
set_option maxHeartbeats 400000 in
theorem lhc_ok {κ : Kx} {d a b : Nat} {G : Gt} {Φ : Option Value → Gt → Prop} {Ψ : String → Nat → Gt → Prop} {v n : Nat} {f : Nat → Int32} (ht : gT G v = 101) (hl : gL G v = n) (hf : ∀ i, i < n → eI G v i = f i) (hn : n ≤ 100000) (k : Φ (some (.int (hsh f n))) G) : X κ (d + 2) mJ16_hashCode 0 [some (.ref v)] [] G a b Φ Ψ := by
  refine X_aload_n 1 dJ16_hashCode_0 rfl rfl ?_
  refine X_alen (t := 101) 2 dJ16_hashCode_1 rfl ht (by decide) ?_
  rw [hl]
  rcases Nat.lt_or_ge n 2 with h2 | h2
  · rcases Nat.lt_or_ge n 1 with h1 | h1
    · have e : n = 0 := by omega
      subst e
      refine X_lookup 28 dJ16_hashCode_2 (by decide) (off := 26) (by rw [nI_0]; rfl) (by decide) ?_
      refine X_iconst (v := 0) 29 dJ16_hashCode_28 rfl (by decide) ?_
      refine X_goto 51 dJ16_hashCode_29 (by decide) ?_
      exact X_iret dJ16_hashCode_51 rfl k
    · have e : n = 1 := by omega
      subst e
      refine X_lookup 32 dJ16_hashCode_2 (by decide) (off := 30) (by rw [show nI 1 = 1 by decide]; rfl) (by decide) ?_
      refine X_aload_n 33 dJ16_hashCode_32 rfl rfl ?_
      refine X_iconst (v := 0) 34 dJ16_hashCode_33 rfl (by decide) ?_
      refine X_baload (0) 35 dJ16_hashCode_34 rfl ht nI_0.symm (by omega) ?_
      refine X_sipush (v := 255) 38 dJ16_hashCode_35 rfl (by decide) ?_
      refine X_iand 39 dJ16_hashCode_38 rfl ?_
      refine X_goto 51 dJ16_hashCode_39 (by decide) ?_
      refine X_iret dJ16_hashCode_51 rfl ?_
      rw [hf 0 (by omega)]
      have e9 : hsh f 1 = (f 0 &&& 255) := by
        show 31 * (0 : Int32) + (f 0 &&& 255) = _
        rw [Int32.mul_zero, Int32.zero_add]
      rw [e9] at k
      exact k
  · refine X_lookup 42 dJ16_hashCode_2 (by decide) (off := 40) (by
      rw [nI_toInt (by omega)]
      show (if (0 : Int) = (n : Int) then (26 : Int) else if (1 : Int) = (n : Int) then 30 else 40) = 40
      rw [if_neg (by omega), if_neg (by omega)]) (by decide) ?_
    refine X_aload_n 43 dJ16_hashCode_42 rfl rfl ?_
    refine X_iconst (v := 0) 44 dJ16_hashCode_43 rfl (by decide) ?_
    refine X_aload_n 45 dJ16_hashCode_44 rfl rfl ?_
    refine X_alen (t := 101) 46 dJ16_hashCode_45 rfl ht (by decide) ?_
    rw [hl]
    refine X_iconst (v := 0) 47 dJ16_hashCode_46 rfl (by decide) ?_
    refine X_iconst (v := 4) 48 dJ16_hashCode_47 rfl (by decide) ?_
    refine X_S5z 51 dJ16_hashCode_48 rfl rfl mo_J13_vectorizedHashCode rfl q1032 q1033 rfl (Nat.le_of_ble_eq_true rfl) rfl (Nat.le_of_ble_eq_true rfl) ?_
    refine vhc_ok ht hl hf hn ?_
    refine X_iret dJ16_hashCode_51 rfl ?_
    exact k
set_option maxHeartbeats 400000 in
theorem str_hash_ok {κ : Kx} {d a b : Nat} {G : Gt} {Φ : Option Value → Gt → Prop} {Ψ : String → Nat → Gt → Prop} {s n : Nat} {f : Nat → Int32} (h : SH G s n f) (hB : kB κ ≤ s) (k : ∀ G', Md [] G G' → Φ (some (.int (hsh f n))) G') : X κ (d + 3) mJ5_hashCode 0 [some (.ref s), none] [] G a b Φ Ψ := by
  obtain ⟨q1, q2, q3, q4, v, q5, q6, q7, q8, q9⟩ := h.1
  refine X_aload_n 1 dJ5_hashCode_0 rfl rfl ?_
  refine X_getI (t := 27) (k := 2) 4 dJ5_hashCode_1 rfl rfl (by decide) (by decide) (Or.inl rfl) q641 rfl q1 ?_
  refine X_istore1 5 dJ5_hashCode_4 rfl (by decide) rfl ?_
  refine X_iload_n 6 dJ5_hashCode_5 rfl rfl ?_
  refine X_if_ne 58 9 dJ5_hashCode_6 (by decide) rfl (fun c_6 => ?_) (fun c_6 => ?_)
  · refine X_iload_n 59 dJ5_hashCode_58 rfl rfl ?_
    refine X_iret dJ5_hashCode_59 rfl ?_
    first
      | (have e : gI G 27 2 s = hsh f n := by rcases h.2.2.1 with z | z; exact absurd z c_6; exact z.trans h.2.1
         rw [e]; exact k G (Md.rf _ _))
      | (have e : hsh f n = 0 := by rcases h.2.2.2 with z | z; exact absurd z c_13; exact h.2.1.symm.trans z
         have e0 : gI G 27 2 s = 0 := by first | exact c_6 | exact Decidable.not_not.mp c_6
         rw [e0]; rw [e] at k; exact k G (Md.rf _ _))
      | exact k _ ((Md.rf [] G).hz (by rw [h.2.1]; first | exact c_42 | exact Decidable.not_not.mp c_42))
      | exact k _ ((Md.rf [] G).hs h.2.1.symm)
  · refine X_aload_n 10 dJ5_hashCode_9 rfl rfl ?_
    refine X_getI (t := 27) (k := 3) 13 dJ5_hashCode_10 rfl rfl (by decide) (by decide) (Or.inl rfl) q642 rfl q1 ?_
    refine X_if_ne 58 16 dJ5_hashCode_13 (by decide) rfl (fun c_13 => ?_) (fun c_13 => ?_)
    · refine X_iload_n 59 dJ5_hashCode_58 rfl rfl ?_
      refine X_iret dJ5_hashCode_59 rfl ?_
      first
        | (have e : gI G 27 2 s = hsh f n := by rcases h.2.2.1 with z | z; exact absurd z c_6; exact z.trans h.2.1
           rw [e]; exact k G (Md.rf _ _))
        | (have e : hsh f n = 0 := by rcases h.2.2.2 with z | z; exact absurd z c_13; exact h.2.1.symm.trans z
           have e0 : gI G 27 2 s = 0 := by first | exact c_6 | exact Decidable.not_not.mp c_6
           rw [e0]; rw [e] at k; exact k G (Md.rf _ _))
        | exact k _ ((Md.rf [] G).hz (by rw [h.2.1]; first | exact c_42 | exact Decidable.not_not.mp c_42))
        | exact k _ ((Md.rf [] G).hs h.2.1.symm)
    · refine X_aload_n 17 dJ5_hashCode_16 rfl rfl ?_
      refine X_V0z 20 dJ5_hashCode_17 rfl rfl mo_J5_isLatin1 rfl q681 q682 q683 rfl (RV.t (t := 27) q1 (by decide) rfl) rfl (Nat.le_of_ble_eq_true rfl) rfl (Nat.le_of_ble_eq_true rfl) ?_
      refine sl1_ok h.1 ?_
      refine X_if_eq 33 23 dJ5_hashCode_20 (by decide) rfl (fun c => absurd c ((by decide))) (fun _ => ?_)
      refine X_aload_n 24 dJ5_hashCode_23 rfl rfl ?_
      refine X_getR (t := 27) (k := 0) 27 dJ5_hashCode_24 rfl rfl (by decide) (by decide) (Or.inl rfl) q639 rfl q1 q5 ?_
      refine X_S1z 30 dJ5_hashCode_27 rfl rfl mo_J16_hashCode rfl q1029 q1030 rfl (Nat.le_of_ble_eq_true rfl) rfl (Nat.le_of_ble_eq_true rfl) ?_
      refine lhc_ok q6 q7 q9 q4 ?_
      refine X_goto 40 dJ5_hashCode_30 (by decide) ?_
      refine X_istore1 41 dJ5_hashCode_40 rfl (by decide) rfl ?_
      refine X_iload_n 42 dJ5_hashCode_41 rfl rfl ?_
      refine X_if_ne 53 45 dJ5_hashCode_42 (by decide) rfl (fun c_42 => ?_) (fun c_42 => ?_)
      · refine X_aload_n 54 dJ5_hashCode_53 rfl rfl ?_
        refine X_iload_n 55 dJ5_hashCode_54 rfl rfl ?_
        refine X_putI (t := 27) (k := 2) 58 dJ5_hashCode_55 rfl rfl (by decide) (by decide) (Or.inl rfl) q641 (Or.inl rfl) rfl rfl rfl hB q1 ?_
        refine X_iload_n 59 dJ5_hashCode_58 rfl rfl ?_
        refine X_iret dJ5_hashCode_59 rfl ?_
        first
          | (have e : gI G 27 2 s = hsh f n := by rcases h.2.2.1 with z | z; exact absurd z c_6; exact z.trans h.2.1
             rw [e]; exact k G (Md.rf _ _))
          | (have e : hsh f n = 0 := by rcases h.2.2.2 with z | z; exact absurd z c_13; exact h.2.1.symm.trans z
             have e0 : gI G 27 2 s = 0 := by first | exact c_6 | exact Decidable.not_not.mp c_6
             rw [e0]; rw [e] at k; exact k G (Md.rf _ _))
          | exact k _ ((Md.rf [] G).hz (by rw [h.2.1]; first | exact c_42 | exact Decidable.not_not.mp c_42))
          | exact k _ ((Md.rf [] G).hs h.2.1.symm)
      · refine X_aload_n 46 dJ5_hashCode_45 rfl rfl ?_
        refine X_iconst (v := 1) 47 dJ5_hashCode_46 rfl (by decide) ?_
        refine X_putI (t := 27) (k := 3) 50 dJ5_hashCode_47 rfl rfl (by decide) (by decide) (Or.inl rfl) q642 (Or.inl rfl) rfl rfl rfl hB q1 ?_
        refine X_goto 58 dJ5_hashCode_50 (by decide) ?_
        refine X_iload_n 59 dJ5_hashCode_58 rfl rfl ?_
        refine X_iret dJ5_hashCode_59 rfl ?_
        first
          | (have e : gI G 27 2 s = hsh f n := by rcases h.2.2.1 with z | z; exact absurd z c_6; exact z.trans h.2.1
             rw [e]; exact k G (Md.rf _ _))
          | (have e : hsh f n = 0 := by rcases h.2.2.2 with z | z; exact absurd z c_13; exact h.2.1.symm.trans z
             have e0 : gI G 27 2 s = 0 := by first | exact c_6 | exact Decidable.not_not.mp c_6
             rw [e0]; rw [e] at k; exact k G (Md.rf _ _))
          | exact k _ ((Md.rf [] G).hz (by rw [h.2.1]; first | exact c_42 | exact Decidable.not_not.mp c_42))
          | exact k _ ((Md.rf [] G).hs h.2.1.symm)

set_option maxRecDepth 100000
/-! ===== numbers as objects, Optional ===== -/
/-- v is the Integer i -/
def IV (G : Gt) (v : Nat) (x : Int32) : Prop := gT G v = 29 ∧ gI G 29 0 v = x ∧ ow G v = none
theorem IV.md {S : List Nat} {G G' : Gt} {v : Nat} {x : Int32} (h : IV G v x) (m : Md S G G') : IV G' v x := by
  obtain ⟨h1, h2, h3⟩ := h
  have a1 := m.a (a := v) (by rw [h1]; decide) (fun _ _ => by rw [h3]; exact fun q => by cases q)
  exact ⟨a1.t.trans h1, (a1.i (by decide)).trans h2, a1.o.trans h3⟩
theorem Bs.cache {κ : Kx} {G : Gt} (h : Bs κ G) : gT G (kC κ 24) = 107 ∧ gL G (kC κ 24) = 256 ∧ ∀ i, i < 256 → ∃ r, eR G (kC κ 24) i = some r ∧ IV G r (nI i - 128) := by
  have hlt : kC κ 24 < kB κ := h.1.2.2.2.2.2.2.2.2.2.2.2.2.2.1 24 (by omega)
  have hg := h.2 _ hlt
  have hk := h.1.2.2.2.2.2.2.2.2.2.2.2.2.2.2.2.2.2.2.1
  refine ⟨hg.1.trans hk.1, hg.2.2.2.1.trans hk.2.1, fun i hi => ?_⟩
  obtain ⟨r, r1, r2, r3, r4⟩ := hk.2.2 i hi
  have hr := h.2 r r1
  exact ⟨r, (hg.2.2.2.2.2.2 i).trans r2, hr.1.trans r3, (hr.2.1 29 0).trans r4, h.o r1⟩
theorem Bs.empty {κ : Kx} {G : Gt} (h : Bs κ G) : gT G (kC κ 25) = 30 ∧ gR G 30 0 (kC κ 25) = none := by
  have hlt : kC κ 25 < kB κ := h.1.2.2.2.2.2.2.2.2.2.2.2.2.2.1 25 (by omega)
  have hg := h.2 _ hlt
  have hk := h.1.2.2.2.2.2.2.2.2.2.2.2.2.2.2.2.2.2.2.2.1
  exact ⟨hg.1.trans hk.1, (hg.2.2.1 30 0).trans hk.2⟩
/-- the text constants -/
theorem Bs.text {κ : Kx} {G : Gt} (h : Bs κ G) (j : Nat) (hj : j < TXB.length) (hn : (TXB.getD j []).length ≤ 100000) : ST G (kX κ j) (TXB.getD j []).length (fun i => (TXB.getD j []).getD i 0) ∧ kX κ j < kB κ := by
  obtain ⟨t1, t2, t3, v, v1, v2, v3, v4, v5⟩ := h.1.2.2.2.2.2.2.2.2.2.2.2.2.1 j hj
  have g := h.2 _ t1
  have gv := h.2 v v1
  exact ⟨⟨g.1.trans t2, (g.2.1 27 1).trans t3, h.o t1, hn, v, (g.2.2.1 27 0).trans v2, gv.1.trans v3, gv.2.2.2.1.trans v4, h.o v1, fun i hi => (gv.2.2.2.2.1 i).trans (v5 i hi)⟩, t1⟩
set_option maxHeartbeats 400000 in
theorem num_init_ok {κ : Kx} {d a b : Nat} {G : Gt} {Φ : Option Value → Gt → Prop} {Ψ : String → Nat → Gt → Prop} {m : Nat} (k : Φ none G) : X κ (d + 1) mJ18_init 0 [some (.ref m)] [] G a b Φ Ψ := by
  refine X_aload_n 1 dJ18_init_0 rfl rfl ?_
  refine X_objInit 4 dJ18_init_1 rfl q1509 q142 q143 (Nat.le_of_ble_eq_true rfl) ?_
  refine X_vret dJ18_init_4 rfl ?_
  exact k
set_option maxHeartbeats 400000 in
theorem valueOf_ok {κ : Kx} {d a b : Nat} {G : Gt} {Φ : Option Value → Gt → Prop} {Ψ : String → Nat → Gt → Prop} {x : Int32} (i : Nat) (hx : x = nI i) (hi : i ≤ 100) (k : ∀ v, IV G v (nI i) → Φ (some (.ref v)) G) : X κ d mJ19_valueOf 0 [some (.int x)] [] G a b Φ Ψ := by
  refine X.bs fun hb => ?_
  obtain ⟨c1, c2, c3⟩ := hb.cache
  obtain ⟨r, r1, r2⟩ := c3 (i + 128) (by omega)
  have e9 : nI (i + 128) - 128 = nI i := by rw [← nI_add]; exact Int32.add_sub_cancel _ _
  rw [e9] at r2
  subst hx
  refine X_iload_n 1 dJ19_valueOf_0 rfl rfl ?_
  refine X_bipush (v := -128) 3 dJ19_valueOf_1 rfl (by decide) ?_
  refine X_icmp_lt 23 6 dJ19_valueOf_3 (by decide) rfl (fun c => absurd c ((by intro q; exact absurd (Int32.lt_of_lt_of_le q (by decide)) (nI_pos (n := i) (by omega))))) (fun _ => ?_)
  refine X_iload_n 7 dJ19_valueOf_6 rfl rfl ?_
  refine X_getsI (z := 127) 10 dJ19_valueOf_7 rfl (by decide) q1498 ?_
  refine X_icmp_gt 23 13 dJ19_valueOf_10 (by decide) rfl (fun c => absurd c ((by rw [show (127 : Int32) = nI 127 by decide]; exact nI_nlt (by omega) (by omega)))) (fun _ => ?_)
  refine X_getsR 16 24 dJ19_valueOf_13 rfl rfl q1500 ?_
  refine X_iload_n 17 dJ19_valueOf_16 rfl rfl ?_
  refine X_sipush (v := 128) 20 dJ19_valueOf_17 rfl (by decide) ?_
  refine X_iadd 21 dJ19_valueOf_20 rfl ?_
  rw [show nI i + 128 = nI (i + 128) from nI_add i 128]
  refine X_aaload (t := 107) ((i + 128)) 22 dJ19_valueOf_21 rfl c1 (by decide) rfl (by rw [c2]; omega) r1 ?_
  refine X_aret dJ19_valueOf_22 rfl (Or.inl ⟨_, rfl⟩) ?_
  exact k r r2
set_option maxHeartbeats 400000 in
theorem intValue_ok {κ : Kx} {d a b : Nat} {G : Gt} {Φ : Option Value → Gt → Prop} {Ψ : String → Nat → Gt → Prop} {v : Nat} {x : Int32} (h : IV G v x) (k : Φ (some (.int x)) G) : X κ d mJ19_intValue 0 [some (.ref v)] [] G a b Φ Ψ := by
  refine X_aload_n 1 dJ19_intValue_0 rfl rfl ?_
  refine X_getI (t := 29) (k := 0) 4 dJ19_intValue_1 rfl rfl (by decide) (by decide) (Or.inl rfl) q1510 rfl h.1 ?_
  rw [h.2.1]
  refine X_iret dJ19_intValue_4 rfl ?_
  exact k
set_option maxHeartbeats 400000 in
theorem icompare_ok {κ : Kx} {d a b : Nat} {G : Gt} {Φ : Option Value → Gt → Prop} {Ψ : String → Nat → Gt → Prop} {x y : Int32} (k : Φ (some (.int (if x < y then -1 else if x = y then 0 else 1))) G) : X κ d mJ19_compare 0 [some (.int x), some (.int y)] [] G a b Φ Ψ := by
  refine X_iload_n 1 dJ19_compare_0 rfl rfl ?_
  refine X_iload_n 2 dJ19_compare_1 rfl rfl ?_
  refine X_icmp_ge 9 5 dJ19_compare_2 (by decide) rfl (fun c_2 => ?_) (fun c_2 => ?_)
  · refine X_iload_n 10 dJ19_compare_9 rfl rfl ?_
    refine X_iload_n 11 dJ19_compare_10 rfl rfl ?_
    refine X_icmp_ne 18 14 dJ19_compare_11 (by decide) rfl (fun c_11 => ?_) (fun c_11 => ?_)
    · refine X_iconst (v := 1) 19 dJ19_compare_18 rfl (by decide) ?_
      refine X_iret dJ19_compare_19 rfl ?_
      first | (rw [if_pos (Int32.not_le.mp c_2)] at k; exact k) | (rw [if_neg (Int32.not_lt.mpr c_2), if_neg c_11] at k; exact k) | (rw [if_neg (Int32.not_lt.mpr c_2), if_pos (Decidable.not_not.mp (fun q => by first | exact q c_11 | exact c_11 q))] at k; exact k)
    · refine X_iconst (v := 0) 15 dJ19_compare_14 rfl (by decide) ?_
      refine X_goto 19 dJ19_compare_15 (by decide) ?_
      refine X_iret dJ19_compare_19 rfl ?_
      first | (rw [if_pos (Int32.not_le.mp c_2)] at k; exact k) | (rw [if_neg (Int32.not_lt.mpr c_2), if_neg c_11] at k; exact k) | (rw [if_neg (Int32.not_lt.mpr c_2), if_pos (Decidable.not_not.mp (fun q => by first | exact q c_11 | exact c_11 q))] at k; exact k)
  · refine X_iconst (v := -1) 6 dJ19_compare_5 rfl (by decide) ?_
    refine X_goto 19 dJ19_compare_6 (by decide) ?_
    refine X_iret dJ19_compare_19 rfl ?_
    first | (rw [if_pos (Int32.not_le.mp c_2)] at k; exact k) | (rw [if_neg (Int32.not_lt.mpr c_2), if_neg c_11] at k; exact k) | (rw [if_neg (Int32.not_lt.mpr c_2), if_pos (Decidable.not_not.mp (fun q => by first | exact q c_11 | exact c_11 q))] at k; exact k)
set_option maxHeartbeats 400000 in
theorem opt_init_ok {κ : Kx} {d a b : Nat} {G : Gt} {Φ : Option Value → Gt → Prop} {Ψ : String → Nat → Gt → Prop} {o v : Nat} (h1 : gT G o = 30) (h2 : kB κ ≤ o) (k : Φ none (sR G 30 0 o (some v))) : X κ (d + 1) mJ29_init 0 [some (.ref o), some (.ref v)] [] G a b Φ Ψ := by
  refine X_aload_n 1 dJ29_init_0 rfl rfl ?_
  refine X_objInit 4 dJ29_init_1 rfl q1796 q142 q143 (Nat.le_of_ble_eq_true rfl) ?_
  refine X_aload_n 5 dJ29_init_4 rfl rfl ?_
  refine X_aload_n 6 dJ29_init_5 rfl rfl ?_
  refine X_putR (t := 30) (k := 0) 9 dJ29_init_6 rfl rfl (by decide) (by decide) (Or.inl rfl) q1797 (Or.inr ⟨rfl, rfl⟩) rfl rfl rfl (by assumption) h1 ?_
  refine X_vret dJ29_init_9 rfl ?_
  exact k
set_option maxHeartbeats 400000 in
theorem opt_of_ok {κ : Kx} {d a b : Nat} {G : Gt} {Φ : Option Value → Gt → Prop} {Ψ : String → Nat → Gt → Prop} {v : Nat} (ha : 1 ≤ a) (hb : 1 ≤ b) (k : ∀ o G', gT G o = 0 → Md [] G G' → gT G' o = 30 → gR G' 30 0 o = some v → Φ (some (.ref o)) G') : X κ (d + 2) mJ29_ofNullable 0 [some (.ref v)] [] G a b Φ Ψ := by
  refine X_aload_n 1 dJ29_ofNullable_0 rfl rfl ?_
  refine X_ifnonnull 10 dJ29_ofNullable_1 (by decide) ?_
  refine X_new (t := 30) (a' := (a - 1)) (b' := (b - 1)) 13 dJ29_ofNullable_10 rfl rfl (by decide) q1791 q1792 q120 (by omega) (by omega) (fun o h0_o hB_o => ?_)
  refine X_dup 14 dJ29_ofNullable_13 rfl rfl ?_
  refine X_aload_n 15 dJ29_ofNullable_14 rfl rfl ?_
  refine X_I1z 18 dJ29_ofNullable_15 rfl rfl mo_J29_init rfl rfl q1793 q1794 rfl rfl (Nat.le_of_ble_eq_true rfl) rfl (Nat.le_of_ble_eq_true rfl) ?_
  refine opt_init_ok (by rw [gT_nw, if_pos rfl]) hB_o ?_
  refine X_aret dJ29_ofNullable_18 rfl (Or.inl ⟨_, rfl⟩) ?_
  refine k o _ h0_o (((Md.rf [] G).nn h0_o).sr (Wr.n h0_o)) (by show gT (nw G o 30 0) o = 30; rw [gT_nw, if_pos rfl]) (by rw [gR_sR, if_pos ⟨rfl, rfl, rfl⟩])
set_option maxHeartbeats 400000 in
theorem opt_ofN_ok {κ : Kx} {d a b : Nat} {G : Gt} {Φ : Option Value → Gt → Prop} {Ψ : String → Nat → Gt → Prop} (k : Φ (some (.ref (kC κ 25))) G) : X κ d mJ29_ofNullable 0 [some .null] [] G a b Φ Ψ := by
  refine X_aloadN_n 1 dJ29_ofNullable_0 rfl rfl ?_
  refine X_ifnonnullN 4 dJ29_ofNullable_1 rfl ?_
  refine X_getsR 7 25 dJ29_ofNullable_4 rfl rfl q1789 ?_
  refine X_goto 18 dJ29_ofNullable_7 (by decide) ?_
  refine X_aret dJ29_ofNullable_18 rfl (Or.inl ⟨_, rfl⟩) ?_
  exact k
set_option maxHeartbeats 400000 in
theorem opt_orElse_ok {κ : Kx} {d a b : Nat} {G : Gt} {Φ : Option Value → Gt → Prop} {Ψ : String → Nat → Gt → Prop} {o v w : Nat} (h1 : gT G o = 30) (h2 : gR G 30 0 o = some v) (k : Φ (some (.ref v)) G) : X κ d mJ29_orElse 0 [some (.ref o), some (.ref w)] [] G a b Φ Ψ := by
  refine X_aload_n 1 dJ29_orElse_0 rfl rfl ?_
  refine X_getR (t := 30) (k := 0) 4 dJ29_orElse_1 rfl rfl (by decide) (by decide) (Or.inl rfl) q1797 rfl h1 h2 ?_
  refine X_ifnull 7 dJ29_orElse_4 rfl ?_
  refine X_aload_n 8 dJ29_orElse_7 rfl rfl ?_
  refine X_getR (t := 30) (k := 0) 11 dJ29_orElse_8 rfl rfl (by decide) (by decide) (Or.inl rfl) q1797 rfl h1 h2 ?_
  refine X_goto 15 dJ29_orElse_11 (by decide) ?_
  refine X_aret dJ29_orElse_15 rfl (Or.inl ⟨_, rfl⟩) ?_
  exact k
set_option maxHeartbeats 400000 in
theorem opt_orElseN_ok {κ : Kx} {d a b : Nat} {G : Gt} {Φ : Option Value → Gt → Prop} {Ψ : String → Nat → Gt → Prop} {o w : Nat} (h1 : gT G o = 30) (h2 : gR G 30 0 o = none) (k : Φ (some (.ref w)) G) : X κ d mJ29_orElse 0 [some (.ref o), some (.ref w)] [] G a b Φ Ψ := by
  refine X_aload_n 1 dJ29_orElse_0 rfl rfl ?_
  refine X_getN (t := 30) (k := 0) 4 dJ29_orElse_1 rfl rfl (by decide) (by decide) (Or.inl rfl) q1797 rfl h1 h2 ?_
  refine X_ifnullN 14 dJ29_orElse_4 (by decide) ?_
  refine X_aload_n 15 dJ29_orElse_14 rfl rfl ?_
  refine X_aret dJ29_orElse_15 rfl (Or.inl ⟨_, rfl⟩) ?_
  exact k

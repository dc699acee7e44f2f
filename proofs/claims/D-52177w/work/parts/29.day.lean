set_option maxRecDepth 100000
/-! ===== rules, a day ===== -/
def RU (κ : Kx) (G : Gt) (sky r m n : Nat) (T : Sv → Bool) (S : Sv → Int32) (an : Nat) (af : Nat → Int32) (w : Int32) : Prop := gT G r = 6 ∧ kB κ ≤ r ∧ ow G r = some sky ∧ gI G 6 3 r = w ∧ ∃ t s al, gR G 6 0 r = some t ∧ gR G 6 1 r = some s ∧ gR G 6 2 r = some al ∧ TE κ n m G t T ∧ SU κ n m G s S ∧ AB G al an af
theorem RU.md {κ : Kx} {S9 : List Nat} {G G' : Gt} {sky r m n an : Nat} {T : Sv → Bool} {S : Sv → Int32} {af : Nat → Int32} {w : Int32} (h : RU κ G sky r m n T S an af w) (md : Md S9 G G') (hl : sky ∉ S9) : RU κ G' sky r m n T S an af w := by
  obtain ⟨h1, h2, h3, h4, t, s, al, r0, r1, r2, ht, hs, hal⟩ := h
  have a1 := md.a (a := r) (by rw [h1]; decide) (fun y hy e => hl (by rw [h3] at e; cases e; exact hy))
  exact ⟨a1.t.trans h1, h2, a1.o.trans h3, (a1.i (by decide)).trans h4, t, s, al, (a1.r 6 0).trans r0, (a1.r 6 1).trans r1, (a1.r 6 2).trans r2, TE.md md m t T ht, SU.md md m s S hs, hal.md md⟩
/-- the letter that a number stands for -/
def lI (n : Nat) (x : Int32) : Nat := (fmod x (nI n)).toNatClampNeg
/-- a sky with one byte more -/
def wrV (v : Sv) (c : Int32) : Sv := (vD v, vP v, vN v, vB v + 1, upF (vF v) (vB v) c)
theorem ch_255 (x : Int32) : ¬ 255 < ch x := by
  intro q
  have h1 : (ch x).toBitVec.toNat ≤ 255 := by
    rw [ch_b, BitVec.toNat_and]; exact Nat.and_le_right
  have h2 : (ch x).toInt = ((ch x).toBitVec.toNat : Int) := by
    show (ch x).toBitVec.toInt = _
    rw [BitVec.toInt_eq_toNat_of_lt (by omega)]
  have h3 := Int32.lt_iff_toInt_lt.mp q
  rw [h2, show (255 : Int32).toInt = 255 by decide] at h3
  omega
set_option maxHeartbeats 400000 in
theorem write_ok {κ : Kx} {d a b : Nat} {G : Gt} {Φ : Option Value → Gt → Prop} {Ψ : String → Nat → Gt → Prop} {sky l cap sb cs : Nat} {ps : Nat → Nat} {v : Sv} (h : SK κ G sky l ps cap sb cs v) {r m an : Nat} {T : Sv → Bool} {S : Sv → Int32} {af : Nat → Int32} {w : Int32} (hr : RU κ G sky r m (vN v) T S an af w) (hB : vB v ≤ 600) (hm : m + 20 ≤ d) (hi : ∀ x : Int32, lI an x < an ∧ fmod x (nI an) = nI (lI an x)) (hb : cs < vB v + 1 → 1 ≤ a ∧ ncb cs (vB v + 1) ≤ b) (k1 : (vB v = 600 ∨ ¬ T v = true) → Φ none G) (k2 : ¬ vB v = 600 → T v = true → ∀ G1, Md [sb] G G1 → SK κ G1 sky l ps cap sb (ncb cs (vB v + 1)) (wrV v (i2b (ch (af (lI an (S v)))))) → Φ none (sI G1 6 3 r (w + 1))) : X κ (d + 1) mX3_write 0 [some (.ref sky), some (.ref r)] [] G a b Φ Ψ := by
  obtain ⟨g1, g2, g3, g4, g5, g6, g7, g8, g9, g10, g11⟩ := id h
  obtain ⟨d, rfl⟩ : ∃ d9, d = d9 + 20 := ⟨d - 20, by omega⟩
  obtain ⟨h1, h2, h3, h4, t, s, al, r0, r1, r2, ht, hs, hal⟩ := id hr
  refine X_aload_n 1 dX3_write_0 rfl rfl ?_
  refine X_getR (t := 3) (k := 3) 4 dX3_write_1 rfl rfl (by decide) (by decide) (Or.inl rfl) q241 rfl g1 g9 ?_
  refine X_V0z 7 dX3_write_4 rfl rfl mo_J4_length rfl q2089 q467 q3186 rfl (RV.t (t := 28) g10.1 (by decide) rfl) rfl (Nat.le_of_ble_eq_true rfl) rfl (Nat.le_of_ble_eq_true rfl) ?_
  refine sb_length_ok g10 ?_
  refine X_sipush (v := 600) 10 dX3_write_7 rfl (by decide) ?_
  rw [show (600 : Int32) = nI 600 by decide]
  refine X_icmp_eq 26 13 dX3_write_10 (by decide) rfl (fun c_10 => ?_) (fun c_10 => ?_)
  · refine X_vret dX3_write_26 rfl ?_
    exact k1 (Or.inl ((nI_eq (by omega) (by omega)).mp c_10))
  · refine X_aload_n 14 dX3_write_13 rfl rfl ?_
    refine X_gnR (t := 6) (k := 0) 17 dX3_write_14 rfl rfl (by decide) (by decide) q1965 rfl h1 r0 ?_
    refine X_aload_n 18 dX3_write_17 rfl rfl ?_
    refine testOf_ok m h 23 dX3_write_18 rfl rfl q2286 ht (by omega) cat0 ?_
    refine X_if_ne 27 26 dX3_write_23 (by decide) rfl (fun c_23 => ?_) (fun c_23 => ?_)
    · refine X_aload_n 28 dX3_write_27 rfl rfl ?_
      refine X_getR (t := 3) (k := 3) 31 dX3_write_28 rfl rfl (by decide) (by decide) (Or.inl rfl) q241 rfl g1 g9 ?_
      refine X_aload_n 32 dX3_write_31 rfl rfl ?_
      refine X_gnR (t := 6) (k := 2) 35 dX3_write_32 rfl rfl (by decide) (by decide) q1969 rfl h1 r2 ?_
      refine X_aload_n 36 dX3_write_35 rfl rfl ?_
      refine X_gnR (t := 6) (k := 1) 39 dX3_write_36 rfl rfl (by decide) (by decide) q1967 rfl h1 r1 ?_
      refine X_aload_n 40 dX3_write_39 rfl rfl ?_
      refine sumOf_ok m h 43 dX3_write_40 rfl rfl q2428 hs (by omega) (Nat.le_of_ble_eq_true rfl) ?_
      refine X_V1z 46 dX3_write_43 rfl rfl mo_X12_letter rfl q2429 q2430 q2431 rfl (RV.t (t := 5) hal.1 (by decide) rfl) rfl (Nat.le_of_ble_eq_true rfl) rfl (Nat.le_of_ble_eq_true rfl) ?_
      refine letter_ok hal (lI an (S v)) (hi _).1 (hi _).2 ?_
      refine X_V1 (a1 := a) (b1 := b) (a2 := 0) (b2 := 0) 49 dX3_write_46 rfl rfl mo_J4_append rfl q2436 q351 q352 rfl (RV.t (t := 28) g10.1 (by decide) rfl) rfl (Nat.le_of_ble_eq_true rfl) rfl (Nat.le_of_ble_eq_true rfl) (by omega) (by omega) ?_
      refine sb_append_ok g10 (by omega) (ch_255 _) hb ?_
      intro G1 q1 m1
      have hsb0 : sky ≠ sb := fun e => by have := g10.1; rw [← e, g1] at this; cases this
      have aR := m1.a (a := r) (by rw [h1]; decide) (fun y hy => by rw [List.mem_singleton.mp hy, h3]; exact fun e => hsb0 (Option.some.inj e))
      refine X_pop 50 dX3_write_49 rfl rfl ?_
      refine X_aload_n 51 dX3_write_50 rfl rfl ?_
      refine X_dup 52 dX3_write_51 rfl rfl ?_
      refine X_gnI (t := 6) (k := 3) 55 dX3_write_52 rfl rfl (by decide) (by decide) q1970 rfl (aR.t.trans h1) ?_
      rw [aR.i (by decide), h4]
      refine X_iconst (v := 1) 56 dX3_write_55 rfl (by decide) ?_
      refine X_iadd 57 dX3_write_56 rfl ?_
      refine X_pnI (t := 6) (k := 3) 60 dX3_write_57 rfl rfl (by decide) (by decide) q1970 rfl rfl rfl rfl h2 (aR.t.trans h1) ?_
      refine X_vret dX3_write_60 rfl ?_
      have hsb : sky ≠ sb := fun e => by have := g10.1; rw [← e, g1] at this; cases this
      have hlb : l ≠ sb := fun e => by have := g10.1; rw [← e, g6.1] at this; cases this
      have aS := m1.a (a := sky) (by rw [g1]; decide) (fun y hy e => by rw [g3] at e; cases e; exact hsb (List.mem_singleton.mp hy))
      refine k2 (fun e => c_10 (by rw [e])) (Decidable.not_not.mp (fun q => c_23 (b01_0.mpr q))) G1 m1 ⟨aS.t.trans g1, g2, aS.o.trans g3, (aS.i (by decide)).trans g4, (aS.r 3 0).trans g5, g6.md m1 (by simp only [List.mem_singleton]; exact hlb), fun i hi => (g7 i hi).md m1 (by simp only [List.mem_singleton]; exact hsb), g8, (aS.r 3 3).trans g9, q1, g11⟩
    · refine X_vret dX3_write_26 rfl ?_
      exact k1 (Or.inr (b01_0.mp c_23))

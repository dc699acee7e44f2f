set_option maxRecDepth 100000
/-! ===== leaves: Math, Planet, Tape ===== -/
def remI (x y : Int32) : Int32 := x - x / y * y
def fmod (x y : Int32) : Int32 := if (x ^^^ y) < 0 ∧ ¬ remI x y = 0 then remI x y + y else remI x y
def fdiv (x y : Int32) : Int32 := if (x ^^^ y) < 0 ∧ ¬ x / y * y = x then x / y - 1 else x / y
def b01 (p : Prop) [Decidable p] : Int32 := if p then 1 else 0
theorem b01_t {p : Prop} [Decidable p] (h : p) : b01 p = 1 := if_pos h
theorem b01_f {p : Prop} [Decidable p] (h : ¬ p) : b01 p = 0 := if_neg h
set_option maxHeartbeats 400000 in
theorem floorMod_ok {κ : Kx} {d a b : Nat} {G : Gt} {Φ : Option Value → Gt → Prop} {Ψ : String → Nat → Gt → Prop} {x y : Int32} (hy : ¬ y = 0) (k : Φ (some (.int (fmod x y))) G) : X κ d mJ14_floorMod 0 [some (.int x), some (.int y), none] [] G a b Φ Ψ := by
  refine X_iload_n 1 dJ14_floorMod_0 rfl rfl ?_
  refine X_iload_n 2 dJ14_floorMod_1 rfl rfl ?_
  refine X_irem 3 dJ14_floorMod_2 rfl hy ?_
  refine X_istore2 4 dJ14_floorMod_3 rfl (by decide) rfl ?_
  refine X_iload_n 5 dJ14_floorMod_4 rfl rfl ?_
  refine X_iload_n 6 dJ14_floorMod_5 rfl rfl ?_
  refine X_ixor 7 dJ14_floorMod_6 rfl ?_
  refine X_if_ge 18 10 dJ14_floorMod_7 (by decide) rfl (fun c_7 => ?_) (fun c_7 => ?_)
  · refine X_iload_n 19 dJ14_floorMod_18 rfl rfl ?_
    refine X_iret dJ14_floorMod_19 rfl ?_
    rw [fmod, if_neg (by intro h; first | exact c_7 h.1 | exact h.2 c_11 | exact Int32.not_lt.mpr c_7 h.1)] at k
    exact k
  · refine X_iload_n 11 dJ14_floorMod_10 rfl rfl ?_
    refine X_if_eq 18 14 dJ14_floorMod_11 (by decide) rfl (fun c_11 => ?_) (fun c_11 => ?_)
    · refine X_iload_n 19 dJ14_floorMod_18 rfl rfl ?_
      refine X_iret dJ14_floorMod_19 rfl ?_
      rw [fmod, if_neg (by intro h; first | exact c_7 h.1 | exact h.2 c_11 | exact Int32.not_lt.mpr c_7 h.1)] at k
      exact k
    · refine X_iload_n 15 dJ14_floorMod_14 rfl rfl ?_
      refine X_iload_n 16 dJ14_floorMod_15 rfl rfl ?_
      refine X_iadd 17 dJ14_floorMod_16 rfl ?_
      refine X_iret dJ14_floorMod_17 rfl ?_
      rw [fmod, if_pos ⟨by first | assumption | exact Int32.not_le.mp c_7, c_11⟩] at k
      exact k
set_option maxHeartbeats 400000 in
theorem pset_ok {κ : Kx} {d a b : Nat} {G : Gt} {Φ : Option Value → Gt → Prop} {Ψ : String → Nat → Gt → Prop} {r : Nat} {x : Int32} (ht : gT G r = 4) (hB : kB κ ≤ r) (k : Φ none (sI (sI G 4 5 r x) 4 6 r x)) : X κ d mX11_set 0 [some (.ref r), some (.int x)] [] G a b Φ Ψ := by
  refine X_aload_n 1 dX11_set_0 rfl rfl ?_
  refine X_iload_n 2 dX11_set_1 rfl rfl ?_
  refine X_putI (t := 4) (k := 5) 5 dX11_set_2 rfl rfl (by decide) (by decide) (Or.inl rfl) q1672 (Or.inl rfl) rfl rfl rfl (by assumption) (by first | assumption | (simp only [gT_sI, gT_sR, gT_wI, gT_wJ, gT_wR, gT_uI, gT_uJ, gT_uR, gT_nw] <;> assumption) | (simp [gT_sI, gT_sR, gT_wI, gT_wJ, gT_wR, gT_uI, gT_uJ, gT_uR, gT_nw, *]; done)) ?_
  refine X_aload_n 6 dX11_set_5 rfl rfl ?_
  refine X_iload_n 7 dX11_set_6 rfl rfl ?_
  refine X_putI (t := 4) (k := 6) 10 dX11_set_7 rfl rfl (by decide) (by decide) (Or.inl rfl) q1676 (Or.inl rfl) rfl rfl rfl (by assumption) (by first | assumption | (simp only [gT_sI, gT_sR, gT_wI, gT_wJ, gT_wR, gT_uI, gT_uJ, gT_uR, gT_nw] <;> assumption) | (simp [gT_sI, gT_sR, gT_wI, gT_wJ, gT_wR, gT_uI, gT_uJ, gT_uR, gT_nw, *]; done)) ?_
  refine X_vret dX11_set_10 rfl ?_
  exact k
set_option maxHeartbeats 400000 in
theorem isRetro_ok {κ : Kx} {d a b : Nat} {G : Gt} {Φ : Option Value → Gt → Prop} {Ψ : String → Nat → Gt → Prop} {r : Nat} {x : Int32} (ht : gT G r = 4) (he : ¬ gI G 4 4 r = 0) (k : Φ (some (.int (b01 (remI x (gI G 4 4 r) < gI G 4 3 r)))) G) : X κ d mX11_isRetro 0 [some (.ref r), some (.int x)] [] G a b Φ Ψ := by
  refine X_iload_n 1 dX11_isRetro_0 rfl rfl ?_
  refine X_aload_n 2 dX11_isRetro_1 rfl rfl ?_
  refine X_getI (t := 4) (k := 4) 5 dX11_isRetro_2 rfl rfl (by decide) (by decide) (Or.inl rfl) q1670 rfl (by first | assumption | (simp only [gT_sI, gT_sR, gT_wI, gT_wJ, gT_wR, gT_uI, gT_uJ, gT_uR, gT_nw] <;> assumption) | (simp [gT_sI, gT_sR, gT_wI, gT_wJ, gT_wR, gT_uI, gT_uJ, gT_uR, gT_nw, *]; done)) ?_
  refine X_irem 6 dX11_isRetro_5 rfl he ?_
  refine X_aload_n 7 dX11_isRetro_6 rfl rfl ?_
  refine X_getI (t := 4) (k := 3) 10 dX11_isRetro_7 rfl rfl (by decide) (by decide) (Or.inl rfl) q1669 rfl (by first | assumption | (simp only [gT_sI, gT_sR, gT_wI, gT_wJ, gT_wR, gT_uI, gT_uJ, gT_uR, gT_nw] <;> assumption) | (simp [gT_sI, gT_sR, gT_wI, gT_wJ, gT_wR, gT_uI, gT_uJ, gT_uR, gT_nw, *]; done)) ?_
  refine X_icmp_ge 17 13 dX11_isRetro_10 (by decide) rfl (fun c_10 => ?_) (fun c_10 => ?_)
  · refine X_iconst (v := 0) 18 dX11_isRetro_17 rfl (by decide) ?_
    refine X_zret dX11_isRetro_18 rfl rfl ?_
    first | exact (b01_t (Int32.not_le.mp c_10) ▸ k) | exact (b01_f (Int32.not_lt.mpr c_10) ▸ k)
  · refine X_iconst (v := 1) 14 dX11_isRetro_13 rfl (by decide) ?_
    refine X_goto 18 dX11_isRetro_14 (by decide) ?_
    refine X_zret dX11_isRetro_18 rfl rfl ?_
    first | exact (b01_t (Int32.not_le.mp c_10) ▸ k) | exact (b01_f (Int32.not_lt.mpr c_10) ▸ k)

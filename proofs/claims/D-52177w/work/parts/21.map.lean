set_option maxRecDepth 100000
/-! ===== maps of texts to numbers: the i-th text that was put has the number i ===== -/
def nx (p : Nat → Bool) : Nat → Nat → Option Nat
  | _, 0 => none
  | i, k + 1 => if p i then some i else nx p (i + 1) k
theorem nx_some {p : Nat → Bool} : ∀ {k i j : Nat}, nx p i k = some j → i ≤ j ∧ j < i + k ∧ p j = true ∧ ∀ q, i ≤ q → q < j → ¬ p q = true
  | 0, i, j, h => by cases h
  | k + 1, i, j, h => by
    rw [nx] at h
    by_cases hp : p i = true
    · rw [if_pos hp] at h
      cases h
      exact ⟨Nat.le_refl _, by omega, hp, fun q h1 h2 => by omega⟩
    · rw [if_neg hp] at h
      obtain ⟨h1, h2, h3, h4⟩ := nx_some h
      refine ⟨by omega, by omega, h3, fun q h5 h6 => ?_⟩
      rcases Nat.lt_or_ge i q with g | g
      · exact h4 q g h6
      · have : q = i := by omega
        rw [this]; exact hp
theorem nx_none {p : Nat → Bool} : ∀ {k i : Nat}, nx p i k = none → ∀ q, i ≤ q → q < i + k → ¬ p q = true
  | 0, i, h => fun q h1 h2 => by omega
  | k + 1, i, h => by
    rw [nx] at h
    by_cases hp : p i = true
    · rw [if_pos hp] at h; cases h
    · rw [if_neg hp] at h
      intro q h1 h2
      rcases Nat.lt_or_ge i q with g | g
      · exact nx_none h q g (by omega)
      · have : q = i := by omega
        rw [this]; exact hp
theorem nx_i {p : Nat → Bool} : ∀ {k i j : Nat}, i ≤ j → j < i + k → p j = true → (∀ q, i ≤ q → q < j → ¬ p q = true) → nx p i k = some j
  | 0, i, j, h1, h2, _, _ => by omega
  | k + 1, i, j, h1, h2, h3, h4 => by
    rw [nx]
    by_cases e : j = i
    · subst e; rw [if_pos h3]
    · rw [if_neg (h4 i (Nat.le_refl _) (by omega))]
      exact nx_i (by omega) (by omega) h3 (fun q g1 g2 => h4 q (by omega) g2)
theorem nx_n {p : Nat → Bool} : ∀ {k i : Nat}, (∀ q, i ≤ q → q < i + k → ¬ p q = true) → nx p i k = none
  | 0, i, _ => rfl
  | k + 1, i, h => by
    rw [nx, if_neg (h i (Nat.le_refl _) (by omega))]
    exact nx_n (fun q g1 g2 => h q (by omega) (by omega))
theorem nx_cg {p p' : Nat → Bool} : ∀ {k i : Nat}, (∀ q, i ≤ q → q < i + k → p q = p' q) → nx p i k = nx p' i k
  | 0, _, _ => rfl
  | k + 1, i, h => by rw [nx, nx, h i (Nat.le_refl _) (by omega), nx_cg (fun q g1 g2 => h q (by omega) (by omega))]
def spr (h : Int32) : Int32 := h ^^^ (h.toUInt32 >>> ((16 : Int32).toUInt32 &&& Int32.toUInt32 31)).toInt32
def bkt (h : Int32) : Nat := ((15 : Int32) &&& h).toBitVec.toNat
theorem bkt_lt (h : Int32) : bkt h < 16 := by
  have e : ((15 : Int32) &&& h).toBitVec = 15#32 &&& h.toBitVec := rfl
  rw [bkt, e, BitVec.toNat_and]
  exact Nat.lt_of_le_of_lt Nat.and_le_left (by decide)
theorem bkt_n (h : Int32) : (15 : Int32) &&& h = nI (bkt h) := by
  apply Int32.toBitVec_inj.mp
  show _ = BitVec.ofNat 32 _
  rw [bkt, BitVec.ofNat_toNat, BitVec.setWidth_eq]
/-- the hash that the map notes for a text -/
def kh (n : Nat) (f : Nat → Int32) : Int32 := spr (hsh f n)
theorem teq_kh {n m : Nat} {f g : Nat → Int32} (h : teq n f m g) : kh n f = kh m g := by
  obtain ⟨e, h⟩ := h
  subst e
  rw [kh, kh, hsh_cg h]
def teqB (n : Nat) (f : Nat → Int32) (m : Nat) (g : Nat → Int32) : Bool := decide (n = m) && (List.range n).all fun i => decide (f i = g i)
theorem teqB_iff {n m : Nat} {f g : Nat → Int32} : teqB n f m g = true ↔ teq n f m g := by
  simp [teqB, teq, List.all_eq_true]
def teqD (n : Nat) (f : Nat → Int32) (m : Nat) (g : Nat → Int32) : Decidable (teq n f m g) := decidable_of_iff _ teqB_iff
theorem teqB_b (n : Nat) (f : Nat → Int32) (m : Nat) (g : Nat → Int32) : @b01 _ (teqD n f m g) = 0 ↔ ¬ teqB n f m g = true := by
  by_cases h : teq n f m g
  · rw [@b01_t _ (teqD n f m g) h, teqB_iff]
    exact ⟨fun q => absurd q (by decide), fun q => absurd h q⟩
  · rw [@b01_f _ (teqD n f m g) h, teqB_iff]
    exact ⟨fun _ => h, fun _ => rfl⟩
/-- a node of the map: the i-th -/
def HN (κ : Kx) (G : Gt) (m n : Nat) (kA kn : Nat → Nat) (kf : Nat → Nat → Int32) (nd va : Nat → Nat) (i : Nat) : Prop :=
  gT G (nd i) = 26 ∧ kB κ ≤ nd i ∧ ow G (nd i) = some m ∧ gI G 26 0 (nd i) = kh (kn i) (kf i) ∧ gR G 26 1 (nd i) = some (kA i) ∧ gR G 26 2 (nd i) = some (va i) ∧ gT G (va i) = 29 ∧ gI G 29 0 (va i) = nI i ∧ ow G (va i) = none ∧ ST G (kA i) (kn i) (kf i) ∧ gR G 26 3 (nd i) = (nx (fun j => decide (bkt (kh (kn j) (kf j)) = bkt (kh (kn i) (kf i)))) (i + 1) (n - (i + 1))).map nd
def HT (κ : Kx) (G : Gt) (m n : Nat) (kn : Nat → Nat) (kf : Nat → Nat → Int32) (nd : Nat → Nat) (tab : Nat) : Prop :=
  gR G 25 2 m = some tab ∧ gT G tab = 104 ∧ kB κ ≤ tab ∧ ow G tab = some m ∧ gL G tab = 16 ∧ gI G 25 6 m = 12 ∧ ∀ b, b < 16 → eR G tab b = (nx (fun j => decide (bkt (kh (kn j) (kf j)) = b)) 0 n).map nd
def HM (κ : Kx) (G : Gt) (m n : Nat) (kA kn : Nat → Nat) (kf : Nat → Nat → Int32) : Prop :=
  gT G m = 25 ∧ kB κ ≤ m ∧ ow G m = some m ∧ gI G 25 4 m = nI n ∧ n ≤ 8 ∧ ∃ nd va : Nat → Nat, (∀ i, i < n → HN κ G m n kA kn kf nd va i) ∧ (∀ i j, i < n → j < n → nd i = nd j → i = j) ∧ ((n = 0 ∧ gR G 25 2 m = none ∧ gI G 25 6 m = 0) ∨ ∃ tab, HT κ G m n kn kf nd tab)
theorem HM.md {κ : Kx} {S : List Nat} {G G' : Gt} {m n : Nat} {kA kn : Nat → Nat} {kf : Nat → Nat → Int32} (h : HM κ G m n kA kn kf) (w : Md S G G') (hl : m ∉ S) : HM κ G' m n kA kn kf := by
  obtain ⟨h1, h2, h3, h4, h5, nd, va, h6, h7, h8⟩ := h
  have hs : ∀ x, ow G x = some m → ∀ y ∈ S, ow G x ≠ some y := fun x hx y hy e => hl (by rw [hx] at e; cases e; exact hy)
  have a1 := w.a (a := m) (by rw [h1]; decide) (hs m h3)
  refine ⟨a1.t.trans h1, h2, a1.o.trans h3, (a1.i (by decide)).trans h4, h5, nd, va, fun i hi => ?_, h7, ?_⟩
  · obtain ⟨g1, g2, g3, g4, g5, g6, g7, g8, g9, g10, g11⟩ := h6 i hi
    have a2 := w.a (a := nd i) (by rw [g1]; decide) (hs _ g3)
    have a3 := w.a (a := va i) (by rw [g7]; decide) (fun _ _ => by rw [g9]; exact fun h => by cases h)
    exact ⟨a2.t.trans g1, g2, a2.o.trans g3, (a2.i (by decide)).trans g4, (a2.r 26 1).trans g5, (a2.r 26 2).trans g6, a3.t.trans g7, (a3.i (by decide)).trans g8, a3.o.trans g9, g10.md w, (a2.r 26 3).trans g11⟩
  · rcases h8 with ⟨g1, g2, g3⟩ | ⟨tab, g1, g2, g3, g4, g5, g6, g7⟩
    · exact Or.inl ⟨g1, (a1.r 25 2).trans g2, (a1.i (by decide)).trans g3⟩
    · have a2 := w.a (a := tab) (by rw [g2]; decide) (hs _ g4)
      exact Or.inr ⟨tab, (a1.r 25 2).trans g1, a2.t.trans g2, g3, a2.o.trans g4, a2.l.trans g5, (a1.i (by decide)).trans g6, fun b hb => (a2.er b).trans (g7 b hb)⟩
set_option maxHeartbeats 400000 in
theorem hm_hash_ok {κ : Kx} {d a b : Nat} {G : Gt} {Φ : Option Value → Gt → Prop} {Ψ : String → Nat → Gt → Prop} {s n : Nat} {f : Nat → Int32} (h : SH G s n f) (hB : kB κ ≤ s) (k : ∀ G', Md [] G G' → Φ (some (.int (kh n f))) G') : X κ (d + 4) mJ22_hash 0 [some (.ref s), none] [] G a b Φ Ψ := by
  refine X_aload_n 1 dJ22_hash_0 rfl rfl ?_
  refine X_ifnonnull 8 dJ22_hash_1 (by decide) ?_
  refine X_aload_n 9 dJ22_hash_8 rfl rfl ?_
  refine X_U0z (owner := "java/lang/Object") 12 dJ22_hash_9 rfl rfl mo_J5_hashCode rfl q971 q973 q1026 q1027 (Or.inr (Or.inl q970)) (by decide) rfl (RV.t (t := 27) h.1.1 (by decide) rfl) rfl (Nat.le_of_ble_eq_true rfl) rfl (Nat.le_of_ble_eq_true rfl) ?_
  refine str_hash_ok h hB ?_
  intro G1 m1
  refine X_dup 13 dJ22_hash_12 rfl rfl ?_
  refine X_istore1 14 dJ22_hash_13 rfl (by decide) rfl ?_
  refine X_iload_n 15 dJ22_hash_14 rfl rfl ?_
  refine X_bipush (v := 16) 17 dJ22_hash_15 rfl (by decide) ?_
  refine X_iushr 18 dJ22_hash_17 rfl rfl ?_
  refine X_ixor 19 dJ22_hash_18 rfl ?_
  refine X_iret dJ22_hash_19 rfl ?_
  exact k G1 m1
set_option maxHeartbeats 400000 in
theorem hm_getNode_ok {κ : Kx} {d a b : Nat} {G : Gt} {Φ : Option Value → Gt → Prop} {Ψ : String → Nat → Gt → Prop} {m n s L : Nat} {kA kn : Nat → Nat} {kf : Nat → Nat → Int32} {F : Nat → Int32} (h : HM κ G m n kA kn kf) (hs : SH G s L F) (hB : kB κ ≤ s) (ky : (∀ G' i r v, Md [] G G' → i < n → nx (fun j => teqB L F (kn j) (kf j)) 0 n = some i → gT G' r = 26 → gR G' 26 2 r = some v → gT G' v = 29 → gI G' 29 0 v = nI i → Φ (some (.ref r)) G')) (kz : ∀ G', Md [] G G' → nx (fun j => teqB L F (kn j) (kf j)) 0 n = none → Φ (some .null) G') : X κ (d + 5) mJ22_getNode 0 [some (.ref m), some (.ref s), none, none, none, none, none, none] [] G a b Φ Ψ := by
  refine X_aload_n 1 dJ22_getNode_0 rfl rfl ?_
  obtain ⟨h1, h2, h3, h4, h5, nd, va, h6, h7, h8⟩ := id h
  rcases h8 with ⟨g1, g2, g3⟩ | ⟨tab, g1, g2, g3, g4, g5, g6, g7⟩
  · refine X_getN (t := 25) (k := 2) 4 dJ22_getNode_1 rfl rfl (by decide) (by decide) (Or.inl rfl) q828 rfl h1 g2 ?_
    refine X_dup 5 dJ22_getNode_4 rfl rfl ?_
    refine X_astoreN2 6 dJ22_getNode_5 rfl (by decide) rfl ?_
    refine X_ifnullN 148 dJ22_getNode_6 (by decide) ?_
    refine X_null 149 dJ22_getNode_148 rfl ?_
    refine X_aretN dJ22_getNode_149 rfl (Or.inl ⟨_, rfl⟩) ?_
    exact kz G (Md.rf _ _) (by rw [g1]; rfl)
  · refine X_getR (t := 25) (k := 2) 4 dJ22_getNode_1 rfl rfl (by decide) (by decide) (Or.inl rfl) q828 rfl h1 g1 ?_
    refine X_dup 5 dJ22_getNode_4 rfl rfl ?_
    refine X_astore2 6 dJ22_getNode_5 rfl (by decide) rfl ?_
    refine X_ifnull 9 dJ22_getNode_6 rfl ?_
    refine X_aload_n 10 dJ22_getNode_9 rfl rfl ?_
    refine X_alen (t := 104) 11 dJ22_getNode_10 rfl g2 (by decide) ?_
    rw [g5]
    refine X_dup 12 dJ22_getNode_11 rfl rfl ?_
    refine X_istorew5 14 dJ22_getNode_12 rfl (by decide) rfl ?_
    refine X_if_le 148 17 dJ22_getNode_14 (by decide) rfl (fun c => absurd c ((by decide))) (fun _ => ?_)
    refine X_aload_n 18 dJ22_getNode_17 rfl rfl ?_
    refine X_iload 20 dJ22_getNode_18 rfl rfl ?_
    refine X_iconst (v := 1) 21 dJ22_getNode_20 rfl (by decide) ?_
    refine X_isub 22 dJ22_getNode_21 rfl ?_
    rw [show nI 16 - 1 = 15 by decide]
    refine X_aload_n 23 dJ22_getNode_22 rfl rfl ?_
    refine X_S1z 26 dJ22_getNode_23 rfl rfl mo_J22_hash rfl q967 q968 rfl (Nat.le_of_ble_eq_true rfl) rfl (Nat.le_of_ble_eq_true rfl) ?_
    refine hm_hash_ok hs hB ?_
    intro G1 m1
    have hs1 := hs.md m1
    obtain ⟨t1, t2, t3, t4, t5, t6, t7⟩ : HT κ G1 m n kn kf nd tab := by
      have a1 := m1.a (a := m) (by rw [h1]; decide) (fun _ q => absurd q List.not_mem_nil)
      have a2 := m1.a (a := tab) (by rw [g2]; decide) (fun _ q => absurd q List.not_mem_nil)
      exact ⟨(a1.r 25 2).trans g1, a2.t.trans g2, g3, a2.o.trans g4, a2.l.trans g5, (a1.i (by decide)).trans g6, fun b hb => (a2.er b).trans (g7 b hb)⟩
    have p6 : ∀ i, i < n → HN κ G1 m n kA kn kf nd va i := by
      intro i hi
      obtain ⟨g1, g2, g3, g4, g5, g6, g7, g8, g9, g10, g11⟩ := h6 i hi
      have a2 := m1.a (a := nd i) (by rw [g1]; decide) (fun _ q => absurd q List.not_mem_nil)
      have a3 := m1.a (a := va i) (by rw [g7]; decide) (fun _ _ => by rw [g9]; exact fun h => by cases h)
      exact ⟨a2.t.trans g1, g2, a2.o.trans g3, (a2.i (by decide)).trans g4, (a2.r 26 1).trans g5, (a2.r 26 2).trans g6, a3.t.trans g7, (a3.i (by decide)).trans g8, a3.o.trans g9, g10.md m1, (a2.r 26 3).trans g11⟩
    refine X_dup 27 dJ22_getNode_26 rfl rfl ?_
    refine X_istorew6 29 dJ22_getNode_27 rfl (by decide) rfl ?_
    refine X_iand 30 dJ22_getNode_29 rfl ?_
    rw [bkt_n]
    have p6 : ∀ i, i < n → HN κ G1 m n kA kn kf nd va i := p6
    have hp : ∀ q, q < n → teqB L F (kn q) (kf q) = true → bkt (kh (kn q) (kf q)) = bkt (kh L F) := fun q _ hq => by rw [teq_kh (teqB_iff.mp hq)]
    have fin : ∀ i, i < n → (∀ q, q < i → ¬ teqB L F (kn q) (kf q) = true) → teqB L F (kn i) (kf i) = true → Φ (some (.ref (nd i))) G1 := by
      intro i hi hq he
      obtain ⟨q1, q2, q3, q4, q5, q6, q7, q8, q9, q10, q11⟩ := p6 i hi
      exact ky G1 i (nd i) (va i) m1 hi (nx_i (Nat.zero_le _) (by omega) he (fun q _ hq' => hq q hq')) q1 q6 q7 q8
    have nof : ∀ i, i < n → (∀ q, q < i → ¬ teqB L F (kn q) (kf q) = true) → (¬ teqB L F (kn i) (kf i) = true) → bkt (kh (kn i) (kf i)) = bkt (kh L F) → nx (fun j => decide (bkt (kh (kn j) (kf j)) = bkt (kh (kn i) (kf i)))) (i + 1) (n - (i + 1)) = none → nx (fun j => teqB L F (kn j) (kf j)) 0 n = none := by
      intro i hi hq hn hb hz
      refine nx_n (fun q _ hq2 hq3 => ?_)
      rcases Nat.lt_trichotomy q i with z | z | z
      · exact hq q z hq3
      · rw [z] at hq3; exact hn hq3
      · exact nx_none hz q z (by omega) (by simp only [decide_eq_true_eq]; rw [hp q (by omega) hq3, hb])
    have nxt : ∀ i i', i < n → (∀ q, q < i → ¬ teqB L F (kn q) (kf q) = true) → (¬ teqB L F (kn i) (kf i) = true) → bkt (kh (kn i) (kf i)) = bkt (kh L F) → nx (fun j => decide (bkt (kh (kn j) (kf j)) = bkt (kh (kn i) (kf i)))) (i + 1) (n - (i + 1)) = some i' → i < i' ∧ i' < n ∧ bkt (kh (kn i') (kf i')) = bkt (kh L F) ∧ (∀ q, q < i' → ¬ teqB L F (kn q) (kf q) = true) := by
      intro i i' hi hq hn hb hz
      obtain ⟨z1, z2, z3, z4⟩ := nx_some hz
      refine ⟨z1, by omega, by simpa [hb] using z3, fun q hq2 hq3 => ?_⟩
      rcases Nat.lt_trichotomy q i with z | z | z
      · exact hq q z hq3
      · rw [z] at hq3; exact hn hq3
      · exact z4 q z hq2 (by simp only [decide_eq_true_eq]; rw [hp q (by omega) hq3, hb])
    have hk : ∀ i, i < n → ¬ kh (kn i) (kf i) = kh L F → ¬ teqB L F (kn i) (kf i) = true := fun i _ hq he => hq (teq_kh (teqB_iff.mp he)).symm
    have hsame : ∀ i, i < n → kA i = s → teqB L F (kn i) (kf i) = true := by
      intro i hi he
      have z := (p6 i hi).2.2.2.2.2.2.2.2.2.1
      rw [he] at z
      obtain ⟨z1, z2, z3, z4, v, z5, z6, z7, z8, z9⟩ := z
      obtain ⟨y1, y2, y3, y4, v', y5, y6, y7, y8, y9⟩ := hs1.1
      cases z5.symm.trans y5
      exact teqB_iff.mpr ⟨y7.symm.trans z7, fun j hj => (y9 j hj).symm.trans (z9 j (by omega))⟩
    have hb16 := bkt_lt (kh L F)
    have te := t7 _ hb16
    cases hz : nx (fun j => decide (bkt (kh (kn j) (kf j)) = bkt (kh L F))) 0 n with
    | none =>
      rw [hz] at te
      refine X_aaloadN (t := 104) ((bkt (kh L F))) 31 dJ22_getNode_30 rfl t2 (by decide) rfl (by rw [t5]; exact hb16) te ?_
      refine X_dup 32 dJ22_getNode_31 rfl rfl ?_
      refine X_astoreN3 33 dJ22_getNode_32 rfl (by decide) rfl ?_
      refine X_ifnullN 148 dJ22_getNode_33 (by decide) ?_
      refine X_null 149 dJ22_getNode_148 rfl ?_
      refine X_aretN dJ22_getNode_149 rfl (Or.inl ⟨_, rfl⟩) ?_
      exact kz G1 m1 (nx_n (fun q _ hq hq3 => nx_none hz q (Nat.zero_le _) hq (by simp only [decide_eq_true_eq]; exact hp q (by omega) hq3)))
    | some i =>
      rw [hz] at te
      obtain ⟨z1, z2, z3, z4⟩ := nx_some hz
      have z5 : bkt (kh (kn i) (kf i)) = bkt (kh L F) := by simpa using z3
      have z6 : ∀ q, q < i → ¬ teqB L F (kn q) (kf q) = true := fun q hq hq3 => z4 q (Nat.zero_le _) hq (by simp only [decide_eq_true_eq]; exact hp q (by omega) hq3)
      have hi : i < n := by omega
      obtain ⟨q1, q2, q3, q4, q5, q6, q7, q8, q9, q10, q11⟩ := p6 i hi
      have loop : ∀ rem : Nat, ∀ i w3 w7, i < n → n - i ≤ rem → bkt (kh (kn i) (kf i)) = bkt (kh L F) → (∀ q, q < i → ¬ teqB L F (kn q) (kf q) = true) → X κ (d + 5) mJ22_getNode 99 [some (.ref m), some (.ref s), some (.ref tab), some (.ref w3), some (.ref (nd i)), some (.int (nI 16)), some (.int (kh L F)), w7] [] G1 a b Φ Ψ := by
        intro rem
        induction rem with
        | zero =>
          intro i w3 w7 hi hr z5 z6
          omega
        | succ rem ih =>
          intro i w3 w7 hi hr z5 z6
          obtain ⟨q1, q2, q3, q4, q5, q6, q7, q8, q9, q10, q11⟩ := p6 i hi
          refine X_aload 101 dJ22_getNode_99 rfl rfl ?_
          refine X_getI (t := 26) (k := 0) 104 dJ22_getNode_101 rfl rfl (by decide) (by decide) (Or.inl rfl) q1552 rfl q1 ?_
          rw [q4]
          refine X_iload 106 dJ22_getNode_104 rfl rfl ?_
          refine X_icmp_ne 137 109 dJ22_getNode_106 (by decide) rfl (fun c_106 => ?_) (fun c_106 => ?_)
          · have hn : ¬ teqB L F (kn i) (kf i) = true := by
              first
              | exact hk i hi (by assumption)
              | exact (teqB_b L F (kn i) (kf i)).mp (by assumption)
            cases hy : nx (fun j => decide (bkt (kh (kn j) (kf j)) = bkt (kh (kn i) (kf i)))) (i + 1) (n - (i + 1)) with
            | none =>
              refine X_aload 139 dJ22_getNode_137 rfl rfl ?_
              refine X_getN (t := 26) (k := 3) 142 dJ22_getNode_139 rfl rfl (by decide) (by decide) (Or.inl rfl) q1563 rfl q1 (by rw [q11, hy]; rfl) ?_
              refine X_dup 143 dJ22_getNode_142 rfl rfl ?_
              refine X_astoreNw4 145 dJ22_getNode_143 rfl (by decide) rfl ?_
              refine X_ifnonnullN 148 dJ22_getNode_145 rfl ?_
              refine X_null 149 dJ22_getNode_148 rfl ?_
              refine X_aretN dJ22_getNode_149 rfl (Or.inl ⟨_, rfl⟩) ?_
              exact kz G1 m1 (nof i hi z6 hn z5 hy)
            | some i2 =>
              obtain ⟨y1, y2, y3, y4⟩ := nxt i i2 hi z6 hn z5 hy
              refine X_aload 139 dJ22_getNode_137 rfl rfl ?_
              refine X_getR (t := 26) (k := 3) (o := (nd i2)) 142 dJ22_getNode_139 rfl rfl (by decide) (by decide) (Or.inl rfl) q1563 rfl q1 (by rw [q11, hy]; rfl) ?_
              refine X_dup 143 dJ22_getNode_142 rfl rfl ?_
              refine X_astorew4 145 dJ22_getNode_143 rfl (by decide) rfl ?_
              refine X_ifnonnull 99 dJ22_getNode_145 (by decide) ?_
              exact ih i2 _ _ y2 (by omega) y3 y4
          · refine X_aload 111 dJ22_getNode_109 rfl rfl ?_
            refine X_getR (t := 26) (k := 1) 114 dJ22_getNode_111 rfl rfl (by decide) (by decide) (Or.inl rfl) q1556 rfl q1 q5 ?_
            refine X_dup 115 dJ22_getNode_114 rfl rfl ?_
            refine X_astorew7 117 dJ22_getNode_115 rfl (by decide) rfl ?_
            refine X_aload_n 118 dJ22_getNode_117 rfl rfl ?_
            refine X_acmp_eq 134 121 dJ22_getNode_118 (by decide) rfl (fun c_118 => ?_) (fun c_118 => ?_)
            · refine X_aload 136 dJ22_getNode_134 rfl rfl ?_
              refine X_aret dJ22_getNode_136 rfl (Or.inl ⟨_, rfl⟩) ?_
              first
                | exact fin i hi z6 (hsame i hi (by assumption))
                | exact fin i hi z6 (Decidable.not_not.mp (mt (teqB_b L F (kn i) (kf i)).mpr (by assumption)))
            · refine X_aload_n 122 dJ22_getNode_121 rfl rfl ?_
              refine X_ifnull 125 dJ22_getNode_122 rfl ?_
              refine X_aload_n 126 dJ22_getNode_125 rfl rfl ?_
              refine X_aload 128 dJ22_getNode_126 rfl rfl ?_
              refine X_U1z (owner := "java/lang/Object") 131 dJ22_getNode_128 rfl rfl mo_J5_equals rfl q1088 q1090 q1142 q659 (Or.inr (Or.inl q1087)) (by decide) rfl (RV.t (t := 27) hs1.1.1 (by decide) rfl) rfl (Nat.le_of_ble_eq_true rfl) rfl (Nat.le_of_ble_eq_true rfl) ?_
              refine sequals_ok (D := teqD L F (kn i) (kf i)) hs1.1 q10 ?_
              refine X_if_eq 137 134 dJ22_getNode_131 (by decide) rfl (fun c_131 => ?_) (fun c_131 => ?_)
              · have hn : ¬ teqB L F (kn i) (kf i) = true := by
                  first
                  | exact hk i hi (by assumption)
                  | exact (teqB_b L F (kn i) (kf i)).mp (by assumption)
                cases hy : nx (fun j => decide (bkt (kh (kn j) (kf j)) = bkt (kh (kn i) (kf i)))) (i + 1) (n - (i + 1)) with
                | none =>
                  refine X_aload 139 dJ22_getNode_137 rfl rfl ?_
                  refine X_getN (t := 26) (k := 3) 142 dJ22_getNode_139 rfl rfl (by decide) (by decide) (Or.inl rfl) q1563 rfl q1 (by rw [q11, hy]; rfl) ?_
                  refine X_dup 143 dJ22_getNode_142 rfl rfl ?_
                  refine X_astoreNw4 145 dJ22_getNode_143 rfl (by decide) rfl ?_
                  refine X_ifnonnullN 148 dJ22_getNode_145 rfl ?_
                  refine X_null 149 dJ22_getNode_148 rfl ?_
                  refine X_aretN dJ22_getNode_149 rfl (Or.inl ⟨_, rfl⟩) ?_
                  exact kz G1 m1 (nof i hi z6 hn z5 hy)
                | some i2 =>
                  obtain ⟨y1, y2, y3, y4⟩ := nxt i i2 hi z6 hn z5 hy
                  refine X_aload 139 dJ22_getNode_137 rfl rfl ?_
                  refine X_getR (t := 26) (k := 3) (o := (nd i2)) 142 dJ22_getNode_139 rfl rfl (by decide) (by decide) (Or.inl rfl) q1563 rfl q1 (by rw [q11, hy]; rfl) ?_
                  refine X_dup 143 dJ22_getNode_142 rfl rfl ?_
                  refine X_astorew4 145 dJ22_getNode_143 rfl (by decide) rfl ?_
                  refine X_ifnonnull 99 dJ22_getNode_145 (by decide) ?_
                  exact ih i2 _ _ y2 (by omega) y3 y4
              · refine X_aload 136 dJ22_getNode_134 rfl rfl ?_
                refine X_aret dJ22_getNode_136 rfl (Or.inl ⟨_, rfl⟩) ?_
                first
                  | exact fin i hi z6 (hsame i hi (by assumption))
                  | exact fin i hi z6 (Decidable.not_not.mp (mt (teqB_b L F (kn i) (kf i)).mpr (by assumption)))
      
      refine X_aaload (o := (nd i)) (t := 104) ((bkt (kh L F))) 31 dJ22_getNode_30 rfl t2 (by decide) rfl (by rw [t5]; exact hb16) te ?_
      refine X_dup 32 dJ22_getNode_31 rfl rfl ?_
      refine X_astore3 33 dJ22_getNode_32 rfl (by decide) rfl ?_
      refine X_ifnull 36 dJ22_getNode_33 rfl ?_
      refine X_aload_n 37 dJ22_getNode_36 rfl rfl ?_
      refine X_getI (t := 26) (k := 0) 40 dJ22_getNode_37 rfl rfl (by decide) (by decide) (Or.inl rfl) q1552 rfl q1 ?_
      rw [q4]
      refine X_iload 42 dJ22_getNode_40 rfl rfl ?_
      refine X_icmp_ne 71 45 dJ22_getNode_42 (by decide) rfl (fun c_42 => ?_) (fun c_42 => ?_)
      · have hn : ¬ teqB L F (kn i) (kf i) = true := by
          first
          | exact hk i hi (by assumption)
          | exact (teqB_b L F (kn i) (kf i)).mp (by assumption)
        cases hy : nx (fun j => decide (bkt (kh (kn j) (kf j)) = bkt (kh (kn i) (kf i)))) (i + 1) (n - (i + 1)) with
        | none =>
          refine X_aload_n 72 dJ22_getNode_71 rfl rfl ?_
          refine X_getN (t := 26) (k := 3) 75 dJ22_getNode_72 rfl rfl (by decide) (by decide) (Or.inl rfl) q1563 rfl q1 (by rw [q11, hy]; rfl) ?_
          refine X_dup 76 dJ22_getNode_75 rfl rfl ?_
          refine X_astoreNw4 78 dJ22_getNode_76 rfl (by decide) rfl ?_
          refine X_ifnullN 148 dJ22_getNode_78 (by decide) ?_
          refine X_null 149 dJ22_getNode_148 rfl ?_
          refine X_aretN dJ22_getNode_149 rfl (Or.inl ⟨_, rfl⟩) ?_
          exact kz G1 m1 (nof i hi z6 hn z5 hy)
        | some i2 =>
          obtain ⟨y1, y2, y3, y4⟩ := nxt i i2 hi z6 hn z5 hy
          refine X_aload_n 72 dJ22_getNode_71 rfl rfl ?_
          refine X_getR (t := 26) (k := 3) (o := (nd i2)) 75 dJ22_getNode_72 rfl rfl (by decide) (by decide) (Or.inl rfl) q1563 rfl q1 (by rw [q11, hy]; rfl) ?_
          refine X_dup 76 dJ22_getNode_75 rfl rfl ?_
          refine X_astorew4 78 dJ22_getNode_76 rfl (by decide) rfl ?_
          refine X_ifnull 81 dJ22_getNode_78 rfl ?_
          refine X_aload_n 82 dJ22_getNode_81 rfl rfl ?_
          refine X_instNo (t := 26) 85 dJ22_getNode_82 rfl q1 (by decide) rfl q1148 (by decide) ?_
          refine X_if_eq 99 88 dJ22_getNode_85 (by decide) rfl (fun _ => ?_) (fun c => absurd (rfl) c)
          exact loop n i2 _ _ y2 (by omega) y3 y4
      · refine X_aload_n 46 dJ22_getNode_45 rfl rfl ?_
        refine X_getR (t := 26) (k := 1) 49 dJ22_getNode_46 rfl rfl (by decide) (by decide) (Or.inl rfl) q1556 rfl q1 q5 ?_
        refine X_dup 50 dJ22_getNode_49 rfl rfl ?_
        refine X_astorew7 52 dJ22_getNode_50 rfl (by decide) rfl ?_
        refine X_aload_n 53 dJ22_getNode_52 rfl rfl ?_
        refine X_acmp_eq 69 56 dJ22_getNode_53 (by decide) rfl (fun c_53 => ?_) (fun c_53 => ?_)
        · refine X_aload_n 70 dJ22_getNode_69 rfl rfl ?_
          refine X_aret dJ22_getNode_70 rfl (Or.inl ⟨_, rfl⟩) ?_
          first
            | exact fin i hi z6 (hsame i hi (by assumption))
            | exact fin i hi z6 (Decidable.not_not.mp (mt (teqB_b L F (kn i) (kf i)).mpr (by assumption)))
        · refine X_aload_n 57 dJ22_getNode_56 rfl rfl ?_
          refine X_ifnull 60 dJ22_getNode_57 rfl ?_
          refine X_aload_n 61 dJ22_getNode_60 rfl rfl ?_
          refine X_aload 63 dJ22_getNode_61 rfl rfl ?_
          refine X_U1z (owner := "java/lang/Object") 66 dJ22_getNode_63 rfl rfl mo_J5_equals rfl q1088 q1090 q1142 q659 (Or.inr (Or.inl q1087)) (by decide) rfl (RV.t (t := 27) hs1.1.1 (by decide) rfl) rfl (Nat.le_of_ble_eq_true rfl) rfl (Nat.le_of_ble_eq_true rfl) ?_
          refine sequals_ok (D := teqD L F (kn i) (kf i)) hs1.1 q10 ?_
          refine X_if_eq 71 69 dJ22_getNode_66 (by decide) rfl (fun c_66 => ?_) (fun c_66 => ?_)
          · have hn : ¬ teqB L F (kn i) (kf i) = true := by
              first
              | exact hk i hi (by assumption)
              | exact (teqB_b L F (kn i) (kf i)).mp (by assumption)
            cases hy : nx (fun j => decide (bkt (kh (kn j) (kf j)) = bkt (kh (kn i) (kf i)))) (i + 1) (n - (i + 1)) with
            | none =>
              refine X_aload_n 72 dJ22_getNode_71 rfl rfl ?_
              refine X_getN (t := 26) (k := 3) 75 dJ22_getNode_72 rfl rfl (by decide) (by decide) (Or.inl rfl) q1563 rfl q1 (by rw [q11, hy]; rfl) ?_
              refine X_dup 76 dJ22_getNode_75 rfl rfl ?_
              refine X_astoreNw4 78 dJ22_getNode_76 rfl (by decide) rfl ?_
              refine X_ifnullN 148 dJ22_getNode_78 (by decide) ?_
              refine X_null 149 dJ22_getNode_148 rfl ?_
              refine X_aretN dJ22_getNode_149 rfl (Or.inl ⟨_, rfl⟩) ?_
              exact kz G1 m1 (nof i hi z6 hn z5 hy)
            | some i2 =>
              obtain ⟨y1, y2, y3, y4⟩ := nxt i i2 hi z6 hn z5 hy
              refine X_aload_n 72 dJ22_getNode_71 rfl rfl ?_
              refine X_getR (t := 26) (k := 3) (o := (nd i2)) 75 dJ22_getNode_72 rfl rfl (by decide) (by decide) (Or.inl rfl) q1563 rfl q1 (by rw [q11, hy]; rfl) ?_
              refine X_dup 76 dJ22_getNode_75 rfl rfl ?_
              refine X_astorew4 78 dJ22_getNode_76 rfl (by decide) rfl ?_
              refine X_ifnull 81 dJ22_getNode_78 rfl ?_
              refine X_aload_n 82 dJ22_getNode_81 rfl rfl ?_
              refine X_instNo (t := 26) 85 dJ22_getNode_82 rfl q1 (by decide) rfl q1148 (by decide) ?_
              refine X_if_eq 99 88 dJ22_getNode_85 (by decide) rfl (fun _ => ?_) (fun c => absurd (rfl) c)
              exact loop n i2 _ _ y2 (by omega) y3 y4
          · refine X_aload_n 70 dJ22_getNode_69 rfl rfl ?_
            refine X_aret dJ22_getNode_70 rfl (Or.inl ⟨_, rfl⟩) ?_
            first
              | exact fin i hi z6 (hsame i hi (by assumption))
              | exact fin i hi z6 (Decidable.not_not.mp (mt (teqB_b L F (kn i) (kf i)).mpr (by assumption)))
set_option maxHeartbeats 400000 in
theorem hm_containsKey_ok {κ : Kx} {d a b : Nat} {G : Gt} {Φ : Option Value → Gt → Prop} {Ψ : String → Nat → Gt → Prop} {m n s L : Nat} {kA kn : Nat → Nat} {kf : Nat → Nat → Int32} {F : Nat → Int32} (h : HM κ G m n kA kn kf) (hs : SH G s L F) (hB : kB κ ≤ s) (k : ∀ G', Md [] G G' → Φ (some (.int (b01 (nx (fun j => teqB L F (kn j) (kf j)) 0 n ≠ none)))) G') : X κ (d + 6) mJ22_containsKey 0 [some (.ref m), some (.ref s)] [] G a b Φ Ψ := by
  refine X_aload_n 1 dJ22_containsKey_0 rfl rfl ?_
  refine X_aload_n 2 dJ22_containsKey_1 rfl rfl ?_
  refine X_V1z 5 dJ22_containsKey_2 rfl rfl mo_J22_getNode rfl q963 q964 q965 rfl (RV.t (t := 25) h.1 (by decide) rfl) rfl (Nat.le_of_ble_eq_true rfl) rfl (Nat.le_of_ble_eq_true rfl) ?_
  refine hm_getNode_ok h hs hB (fun G1 i r v m1 hi hx g1 g2 g3 g4 => ?_) (fun G1 m1 hx => ?_)
  · refine X_ifnull 8 dJ22_containsKey_5 rfl ?_
    refine X_iconst (v := 1) 9 dJ22_containsKey_8 rfl (by decide) ?_
    refine X_goto 13 dJ22_containsKey_9 (by decide) ?_
    refine X_zret dJ22_containsKey_13 rfl rfl ?_
    rw [b01_t (by rw [hx]; exact fun q => by cases q)] at k
    exact k G1 m1
  · refine X_ifnullN 12 dJ22_containsKey_5 (by decide) ?_
    refine X_iconst (v := 0) 13 dJ22_containsKey_12 rfl (by decide) ?_
    refine X_zret dJ22_containsKey_13 rfl rfl ?_
    rw [b01_f (by rw [hx]; exact fun q => q rfl)] at k
    exact k G1 m1
set_option maxHeartbeats 400000 in
theorem hm_get_ok {κ : Kx} {d a b : Nat} {G : Gt} {Φ : Option Value → Gt → Prop} {Ψ : String → Nat → Gt → Prop} {m n s L : Nat} {kA kn : Nat → Nat} {kf : Nat → Nat → Int32} {F : Nat → Int32} (h : HM κ G m n kA kn kf) (hs : SH G s L F) (hB : kB κ ≤ s) (ky : ∀ G' i v, Md [] G G' → i < n → nx (fun j => teqB L F (kn j) (kf j)) 0 n = some i → gT G' v = 29 → gI G' 29 0 v = nI i → Φ (some (.ref v)) G') (kz : ∀ G', Md [] G G' → nx (fun j => teqB L F (kn j) (kf j)) 0 n = none → Φ (some .null) G') : X κ (d + 6) mJ22_get 0 [some (.ref m), some (.ref s), none] [] G a b Φ Ψ := by
  refine X_aload_n 1 dJ22_get_0 rfl rfl ?_
  refine X_aload_n 2 dJ22_get_1 rfl rfl ?_
  refine X_V1z 5 dJ22_get_2 rfl rfl mo_J22_getNode rfl q963 q964 q965 rfl (RV.t (t := 25) h.1 (by decide) rfl) rfl (Nat.le_of_ble_eq_true rfl) rfl (Nat.le_of_ble_eq_true rfl) ?_
  refine hm_getNode_ok h hs hB (fun G1 i r v m1 hi hx g1 g2 g3 g4 => ?_) (fun G1 m1 hx => ?_)
  · refine X_dup 6 dJ22_get_5 rfl rfl ?_
    refine X_astore2 7 dJ22_get_6 rfl (by decide) rfl ?_
    refine X_ifnonnull 14 dJ22_get_7 (by decide) ?_
    refine X_aload_n 15 dJ22_get_14 rfl rfl ?_
    refine X_getR (t := 26) (k := 2) 18 dJ22_get_15 rfl rfl (by decide) (by decide) (Or.inl rfl) q1558 rfl g1 g2 ?_
    refine X_aret dJ22_get_18 rfl (Or.inl ⟨_, rfl⟩) ?_
    exact ky G1 i v m1 hi hx g3 g4
  · refine X_dup 6 dJ22_get_5 rfl rfl ?_
    refine X_astoreN2 7 dJ22_get_6 rfl (by decide) rfl ?_
    refine X_ifnonnullN 10 dJ22_get_7 rfl ?_
    refine X_null 11 dJ22_get_10 rfl ?_
    refine X_goto 18 dJ22_get_11 (by decide) ?_
    refine X_aretN dJ22_get_18 rfl (Or.inl ⟨_, rfl⟩) ?_
    exact kz G1 m1 hx
set_option maxHeartbeats 400000 in
theorem hm_size_ok {κ : Kx} {d a b : Nat} {G : Gt} {Φ : Option Value → Gt → Prop} {Ψ : String → Nat → Gt → Prop} {m n : Nat} {kA kn : Nat → Nat} {kf : Nat → Nat → Int32} (h : HM κ G m n kA kn kf) (k : Φ (some (.int (nI n))) G) : X κ d mJ22_size 0 [some (.ref m)] [] G a b Φ Ψ := by
  refine X_aload_n 1 dJ22_size_0 rfl rfl ?_
  refine X_getI (t := 25) (k := 4) 4 dJ22_size_1 rfl rfl (by decide) (by decide) (Or.inl rfl) q829 rfl h.1 ?_
  rw [h.2.2.2.1]
  refine X_iret dJ22_size_4 rfl ?_
  exact k
set_option maxHeartbeats 400000 in
theorem amap_init_ok {κ : Kx} {d a b : Nat} {G : Gt} {Φ : Option Value → Gt → Prop} {Ψ : String → Nat → Gt → Prop} {m : Nat} (k : Φ none G) : X κ (d + 1) mJ21_init 0 [some (.ref m)] [] G a b Φ Ψ := by
  refine X_aload_n 1 dJ21_init_0 rfl rfl ?_
  refine X_objInit 4 dJ21_init_1 rfl q826 q142 q143 (Nat.le_of_ble_eq_true rfl) ?_
  refine X_vret dJ21_init_4 rfl ?_
  exact k
def hmI (G : Gt) (m : Nat) (z : Int32) : Gt := so (sI G 25 7 m z) m (some m)
theorem HM.new {κ : Kx} {G : Gt} {m : Nat} {z : Int32} {kA kn : Nat → Nat} {kf : Nat → Nat → Int32} (h1 : gT G m = 25) (h2 : kB κ ≤ m) (h3 : gI G 25 4 m = 0) (h4 : gI G 25 6 m = 0) (h5 : gR G 25 2 m = none) : HM κ (hmI G m z) m 0 kA kn kf := by
  refine ⟨h1, h2, ?_, ?_, by omega, fun _ => 0, fun _ => 0, fun i hi => absurd hi (Nat.not_lt_zero _), fun i j hi => absurd hi (Nat.not_lt_zero _), Or.inl ⟨rfl, ?_, ?_⟩⟩
  · simp only [ow, hmI, so, gR_sR, and_self, if_true]
  · simp only [hmI, so, gI_sR, gI_sI]; rw [if_neg (by simp), h3]; exact nI_0.symm
  · simp only [hmI, so, gR_sR, gR_sI]; rw [if_neg (by simp)]; exact h5
  · simp only [hmI, so, gI_sR, gI_sI]; rw [if_neg (by simp)]; exact h4
theorem Md.hm {S : List Nat} {G0 G : Gt} {m : Nat} {z : Int32} (h : Md S G0 G) (h1 : gT G m = 25) (hs : gT G0 m = 0) : Md S G0 (hmI G m z) := (h.si (Wr.n hs)).gh (Wr.n hs) (by show gT G m ≠ 0; rw [h1]; decide)
set_option maxHeartbeats 400000 in
theorem hm_init_ok {κ : Kx} {d a b : Nat} {G : Gt} {Φ : Option Value → Gt → Prop} {Ψ : String → Nat → Gt → Prop} {m : Nat} (h1 : gT G m = 25) (h2 : kB κ ≤ m) (k : ∀ z, Φ none (hmI G m z)) : X κ (d + 2) mJ22_init 0 [some (.ref m)] [] G a b Φ Ψ := by
  refine X_aload_n 1 dJ22_init_0 rfl rfl ?_
  refine X_I0z 4 dJ22_init_1 rfl rfl mo_J21_init rfl rfl q823 q824 rfl rfl (Nat.le_of_ble_eq_true rfl) rfl (Nat.le_of_ble_eq_true rfl) ?_
  refine amap_init_ok ?_
  refine X_aload_n 5 dJ22_init_4 rfl rfl ?_
  refine X_ldcF 7 dJ22_init_5 rfl q827 ?_
  refine X_putF (t := 25) (k := 7) 10 dJ22_init_7 rfl rfl (by decide) (by decide) (Or.inl rfl) q832 (Or.inr ⟨rfl, rfl⟩) rfl rfl rfl h2 h1 ?_
  refine X.gh (o := m) (w := some m) h2 ?_
  refine X_vret dJ22_init_10 rfl ?_
  exact k _
theorem nx_e1 {p p' : Nat → Bool} {n i j : Nat} (hp : ∀ q, q < n → p' q = p q) (h : nx p i (n - i) = some j) : nx p' i (n + 1 - i) = some j := by
  obtain ⟨h1, h2, h3, h4⟩ := nx_some h
  exact nx_i h1 (by omega) (by rw [hp j (by omega)]; exact h3) (fun q g1 g2 => by rw [hp q (by omega)]; exact h4 q g1 g2)
theorem nx_e2 {p p' : Nat → Bool} {n i : Nat} (hp : ∀ q, q < n → p' q = p q) (hi : i ≤ n) (h : nx p i (n - i) = none) (hn : p' n = true) : nx p' i (n + 1 - i) = some n :=
  nx_i hi (by omega) hn (fun q g1 g2 => by rw [hp q g2]; exact nx_none h q g1 (by omega))
theorem nx_e3 {p p' : Nat → Bool} {n i : Nat} (hp : ∀ q, q < n → p' q = p q) (h : nx p i (n - i) = none) (hn : ¬ p' n = true) : nx p' i (n + 1 - i) = none := by
  refine nx_n (fun q g1 g2 => ?_)
  by_cases e : q = n
  · rw [e]; exact hn
  · rw [hp q (by omega)]; exact nx_none h q g1 (by omega)
def apf (f : Nat → Nat → Int32) (n : Nat) (v : Nat → Int32) : Nat → Nat → Int32 := fun i => if i = n then v else f i
theorem ap_n (f : Nat → Nat) (n v : Nat) : ap f n v n = v := if_pos rfl
theorem ap_o {f : Nat → Nat} {n v i : Nat} (h : i < n) : ap f n v i = f i := if_neg (by omega)
theorem apf_n (f : Nat → Nat → Int32) (n : Nat) (v : Nat → Int32) : apf f n v n = v := if_pos rfl
theorem apf_o {f : Nat → Nat → Int32} {n i : Nat} {v : Nat → Int32} (h : i < n) : apf f n v i = f i := if_neg (by omega)
theorem map_ap {nd : Nat → Nat} {n o : Nat} {x : Option Nat} (h : ∀ j, x = some j → j < n) : x.map (ap nd n o) = x.map nd := by
  cases x with
  | none => rfl
  | some j => show some _ = some _; rw [ap_o (h j rfl)]
theorem HM.putA {κ : Kx} {G : Gt} {m n tab o s L v : Nat} {x : Int32} {F : Nat → Int32} {kA kn : Nat → Nat} {kf : Nat → Nat → Int32} {nd va : Nat → Nat} (h1 : gT G m = 25) (h2 : kB κ ≤ m) (h3 : ow G m = some m) (h5 : n < 8) (h6 : ∀ i, i < n → HN κ G m n kA kn kf nd va i) (h7 : ∀ i j, i < n → j < n → nd i = nd j → i = j) (h8 : HT κ G m n kn kf nd tab)
    (o1 : gT G o = 26) (o2 : kB κ ≤ o) (o3 : ow G o = some m) (o4 : gI G 26 0 o = kh L F) (o5 : gR G 26 1 o = some s) (o6 : gR G 26 2 o = some v) (o7 : gT G v = 29) (o8 : gI G 29 0 v = nI n) (o9 : ow G v = none) (o10 : ST G s L F) (o11 : gR G 26 3 o = none) (o12 : ∀ j, j < n → nd j ≠ o)
    (hz : nx (fun j => decide (bkt (kh (kn j) (kf j)) = bkt (kh L F))) 0 n = none) : HM κ (sI (sI (uR G tab (bkt (kh L F)) (some o)) 25 5 m x) 25 4 m (nI (n + 1))) m (n + 1) (ap kA n s) (ap kn n L) (apf kf n F) := by
  obtain ⟨t1, t2, t3, t4, t5, t6, t7⟩ := h8
  have hb : ∀ j, j < n → bkt (kh (ap kn n L j) (apf kf n F j)) = bkt (kh (kn j) (kf j)) := fun j hj => by rw [ap_o hj, apf_o hj]
  have hbn : bkt (kh (ap kn n L n) (apf kf n F n)) = bkt (kh L F) := by rw [ap_n, apf_n]
  have hno : ∀ j, j < n → ¬ bkt (kh L F) = bkt (kh (kn j) (kf j)) := fun j hj e => nx_none hz j (Nat.zero_le _) (by omega) (by simpa using e.symm)
  refine ⟨h1, h2, h3, ?_, by omega, ap nd n o, ap va n v, fun i hi => ?_, fun i j hi hj => ?_, Or.inr ⟨tab, t1, t2, t3, t4, t5, ?_, fun b hb' => ?_⟩⟩
  · rw [gI_sI, if_pos ⟨rfl, rfl, rfl⟩]
  · rcases Nat.lt_succ_iff_lt_or_eq.mp hi with hi | hi
    · obtain ⟨g1, g2, g3, g4, g5, g6, g7, g8, g9, g10, g11⟩ := h6 i hi
      have e1 : ∀ k, gI (sI (sI (uR G tab (bkt (kh L F)) (some o)) 25 5 m x) 25 4 m (nI (n + 1))) 26 k (nd i) = gI G 26 k (nd i) := fun k => by rw [gI_sI, if_neg (by simp), gI_sI, if_neg (by simp), gI_uR]
      have e2 : gI (sI (sI (uR G tab (bkt (kh L F)) (some o)) 25 5 m x) 25 4 m (nI (n + 1))) 29 0 (va i) = gI G 29 0 (va i) := by rw [gI_sI, if_neg (by simp), gI_sI, if_neg (by simp), gI_uR]
      unfold HN
      rw [ap_o hi, ap_o hi, ap_o hi, ap_o hi, apf_o hi]
      refine ⟨g1, g2, g3, (e1 0).trans g4, g5, g6, g7, e2.trans g8, g9, ?_, ?_⟩
      · obtain ⟨y1, y2, y3, y4, w, y5, y6, y7, y8, y9⟩ := g10
        exact ⟨y1, by rw [gI_sI, if_neg (by simp), gI_sI, if_neg (by simp), gI_uR]; exact y2, y3, y4, w, y5, y6, y7, y8, y9⟩
      · have e3 : nx (fun j => decide (bkt (kh (ap kn n L j) (apf kf n F j)) = bkt (kh (kn i) (kf i)))) (i + 1) (n + 1 - (i + 1)) = nx (fun j => decide (bkt (kh (kn j) (kf j)) = bkt (kh (kn i) (kf i)))) (i + 1) (n - (i + 1)) := by
          have hp : ∀ q, q < n → (fun j => decide (bkt (kh (ap kn n L j) (apf kf n F j)) = bkt (kh (kn i) (kf i)))) q = (fun j => decide (bkt (kh (kn j) (kf j)) = bkt (kh (kn i) (kf i)))) q := fun q hq => by simp only [hb q hq]
          cases hy : nx (fun j => decide (bkt (kh (kn j) (kf j)) = bkt (kh (kn i) (kf i)))) (i + 1) (n - (i + 1)) with
          | none => exact nx_e3 hp hy (by simp only [hbn, decide_eq_true_eq]; exact hno i hi)
          | some j => exact nx_e1 hp hy
        show gR G 26 3 (nd i) = _
        rw [e3, g11]
        exact (map_ap (fun j hj => by have := nx_some hj; omega)).symm
    · subst hi
      unfold HN
      rw [ap_n, ap_n, ap_n, ap_n, apf_n]
      refine ⟨o1, o2, o3, ?_, o5, o6, o7, ?_, o9, ?_, ?_⟩
      · rw [gI_sI, if_neg (by simp), gI_sI, if_neg (by simp), gI_uR]; exact o4
      · rw [gI_sI, if_neg (by simp), gI_sI, if_neg (by simp), gI_uR]; exact o8
      · obtain ⟨y1, y2, y3, y4, w, y5, y6, y7, y8, y9⟩ := o10
        exact ⟨y1, by rw [gI_sI, if_neg (by simp), gI_sI, if_neg (by simp), gI_uR]; exact y2, y3, y4, w, y5, y6, y7, y8, y9⟩
      · show gR G 26 3 o = _
        rw [o11, Nat.sub_self]; rfl
  · intro e
    rcases Nat.lt_succ_iff_lt_or_eq.mp hi with hi | hi <;> rcases Nat.lt_succ_iff_lt_or_eq.mp hj with hj | hj
    · rw [ap_o hi, ap_o hj] at e; exact h7 i j hi hj e
    · subst hj; rw [ap_o hi, ap_n] at e; exact absurd e (o12 i hi)
    · subst hi; rw [ap_n, ap_o hj] at e; exact absurd e.symm (o12 j hj)
    · omega
  · rw [gI_sI, if_neg (by simp), gI_sI, if_neg (by simp), gI_uR]; exact t6
  · rw [eR_sI, eR_sI, eR_uR]
    have hp : ∀ q, q < n → (fun j => decide (bkt (kh (ap kn n L j) (apf kf n F j)) = b)) q = (fun j => decide (bkt (kh (kn j) (kf j)) = b)) q := fun q hq => by simp only [hb q hq]
    by_cases e : b = bkt (kh L F)
    · rw [if_pos ⟨rfl, e⟩]
      subst e
      have := nx_e2 (n := n) (i := 0) hp (Nat.zero_le _) hz (by simp only [hbn, decide_true])
      rw [Nat.sub_zero] at this
      rw [this]
      show some o = some _
      rw [ap_n]
    · rw [if_neg (fun q => e q.2), t7 b hb']
      cases hy : nx (fun j => decide (bkt (kh (kn j) (kf j)) = b)) 0 n with
      | none =>
        have := nx_e3 (n := n) (i := 0) hp hy (by simp only [hbn, decide_eq_true_eq]; exact fun q => e q.symm)
        rw [Nat.sub_zero] at this
        rw [this]; rfl
      | some j =>
        have := nx_e1 (n := n) (i := 0) hp hy
        rw [Nat.sub_zero] at this
        rw [this]
        show some _ = some _
        rw [ap_o (by have := nx_some hy; omega)]
theorem HM.putB {κ : Kx} {G : Gt} {m n tab o s L v i0 : Nat} {x : Int32} {F : Nat → Int32} {kA kn : Nat → Nat} {kf : Nat → Nat → Int32} {nd va : Nat → Nat} (h1 : gT G m = 25) (h2 : kB κ ≤ m) (h3 : ow G m = some m) (h5 : n < 8) (h6 : ∀ i, i < n → HN κ G m n kA kn kf nd va i) (h7 : ∀ i j, i < n → j < n → nd i = nd j → i = j) (h8 : HT κ G m n kn kf nd tab)
    (o1 : gT G o = 26) (o2 : kB κ ≤ o) (o3 : ow G o = some m) (o4 : gI G 26 0 o = kh L F) (o5 : gR G 26 1 o = some s) (o6 : gR G 26 2 o = some v) (o7 : gT G v = 29) (o8 : gI G 29 0 v = nI n) (o9 : ow G v = none) (o10 : ST G s L F) (o11 : gR G 26 3 o = none) (o12 : ∀ j, j < n → nd j ≠ o)
    (hi0 : i0 < n) (hb0 : bkt (kh (kn i0) (kf i0)) = bkt (kh L F)) (hz : nx (fun j => decide (bkt (kh (kn j) (kf j)) = bkt (kh (kn i0) (kf i0)))) (i0 + 1) (n - (i0 + 1)) = none) : HM κ (sI (sI (sR G 26 3 (nd i0) (some o)) 25 5 m x) 25 4 m (nI (n + 1))) m (n + 1) (ap kA n s) (ap kn n L) (apf kf n F) := by
  obtain ⟨t1, t2, t3, t4, t5, t6, t7⟩ := h8
  have hb : ∀ j, j < n → bkt (kh (ap kn n L j) (apf kf n F j)) = bkt (kh (kn j) (kf j)) := fun j hj => by rw [ap_o hj, apf_o hj]
  have hbn : bkt (kh (ap kn n L n) (apf kf n F n)) = bkt (kh L F) := by rw [ap_n, apf_n]
  have eR0 : ∀ c k a, c = 26 ∧ k = 3 ∧ a = nd i0 ∨ gR (sI (sI (sR G 26 3 (nd i0) (some o)) 25 5 m x) 25 4 m (nI (n + 1))) c k a = gR G c k a := fun c k a => by
    by_cases e : a = nd i0 ∧ c = 26 ∧ k = 3
    · exact Or.inl ⟨e.2.1, e.2.2, e.1⟩
    · right; rw [gR_sI, gR_sI, gR_sR, if_neg e]
  have eR1 : ∀ k a, ¬ k = 3 → gR (sI (sI (sR G 26 3 (nd i0) (some o)) 25 5 m x) 25 4 m (nI (n + 1))) 26 k a = gR G 26 k a := fun k a hk => (eR0 26 k a).resolve_left (fun e => hk e.2.1)
  have eR2 : ∀ c k a, ¬ c = 26 → gR (sI (sI (sR G 26 3 (nd i0) (some o)) 25 5 m x) 25 4 m (nI (n + 1))) c k a = gR G c k a := fun c k a hk => (eR0 c k a).resolve_left (fun e => hk e.1)
  have eI1 : ∀ c k a, ¬ c = 25 → gI (sI (sI (sR G 26 3 (nd i0) (some o)) 25 5 m x) 25 4 m (nI (n + 1))) c k a = gI G c k a := fun c k a hc => by rw [gI_sI, if_neg (fun e => hc e.2.1), gI_sI, if_neg (fun e => hc e.2.1), gI_sR]
  have eO : ∀ a, ow (sI (sI (sR G 26 3 (nd i0) (some o)) 25 5 m x) 25 4 m (nI (n + 1))) a = ow G a := fun a => eR2 0 0 a (by decide)
  have eS : ∀ {a l f}, ST G a l f → ST (sI (sI (sR G 26 3 (nd i0) (some o)) 25 5 m x) 25 4 m (nI (n + 1))) a l f := fun {a l f} hst => by
    obtain ⟨y1, y2, y3, y4, w, y5, y6, y7, y8, y9⟩ := hst
    exact ⟨y1, (eI1 27 1 a (by decide)).trans y2, (eO a).trans y3, y4, w, (eR2 27 0 a (by decide)).trans y5, y6, y7, (eO w).trans y8, y9⟩
  refine ⟨h1, h2, (eO m).trans h3, ?_, by omega, ap nd n o, ap va n v, fun i hi => ?_, fun i j hi hj => ?_, Or.inr ⟨tab, (eR2 25 2 m (by decide)).trans t1, t2, t3, (eO tab).trans t4, t5, ?_, fun b hb' => ?_⟩⟩
  · rw [gI_sI, if_pos ⟨rfl, rfl, rfl⟩]
  · rcases Nat.lt_succ_iff_lt_or_eq.mp hi with hi | hi
    · obtain ⟨g1, g2, g3, g4, g5, g6, g7, g8, g9, g10, g11⟩ := h6 i hi
      unfold HN
      rw [ap_o hi, ap_o hi, ap_o hi, ap_o hi, apf_o hi]
      refine ⟨g1, g2, (eO _).trans g3, (eI1 26 0 _ (by decide)).trans g4, (eR1 1 _ (by decide)).trans g5, (eR1 2 _ (by decide)).trans g6, g7, (eI1 29 0 _ (by decide)).trans g8, (eO _).trans g9, eS g10, ?_⟩
      have hp : ∀ q, q < n → (fun j => decide (bkt (kh (ap kn n L j) (apf kf n F j)) = bkt (kh (kn i) (kf i)))) q = (fun j => decide (bkt (kh (kn j) (kf j)) = bkt (kh (kn i) (kf i)))) q := fun q hq => by simp only [hb q hq]
      by_cases e : i = i0
      · subst e
        have e3 := nx_e2 (n := n) (i := i + 1) hp (by omega) hz (by simp only [hbn, hb0, decide_true])
        rw [e3, gR_sI, gR_sI, gR_sR, if_pos ⟨rfl, rfl, rfl⟩]
        show some o = some _
        rw [ap_n]
      · have hne : nd i ≠ nd i0 := fun q => e (h7 i i0 hi hi0 q)
        rw [gR_sI, gR_sI, gR_sR, if_neg (fun q => hne q.1), g11]
        cases hy : nx (fun j => decide (bkt (kh (kn j) (kf j)) = bkt (kh (kn i) (kf i)))) (i + 1) (n - (i + 1)) with
        | none =>
          have hnb : ¬ bkt (kh L F) = bkt (kh (kn i) (kf i)) := by
            intro q
            rcases Nat.lt_or_ge i i0 with z | z
            · exact nx_none hy i0 (by omega) (by omega) (by simp only [decide_eq_true_eq]; rw [hb0, q])
            · exact nx_none hz i (by omega) (by omega) (by simp only [decide_eq_true_eq]; rw [hb0, q])
          rw [nx_e3 hp hy (by simp only [hbn, decide_eq_true_eq]; exact hnb)]; rfl
        | some j =>
          rw [nx_e1 hp hy]
          show some _ = some _
          rw [ap_o (by have := nx_some hy; omega)]
    · subst hi
      unfold HN
      rw [ap_n, ap_n, ap_n, ap_n, apf_n]
      refine ⟨o1, o2, (eO _).trans o3, (eI1 26 0 _ (by decide)).trans o4, (eR1 1 _ (by decide)).trans o5, (eR1 2 _ (by decide)).trans o6, o7, (eI1 29 0 _ (by decide)).trans o8, (eO _).trans o9, eS o10, ?_⟩
      rw [gR_sI, gR_sI, gR_sR, if_neg (fun q => o12 i0 hi0 q.1.symm), o11, Nat.sub_self]; rfl
  · intro e
    rcases Nat.lt_succ_iff_lt_or_eq.mp hi with hi | hi <;> rcases Nat.lt_succ_iff_lt_or_eq.mp hj with hj | hj
    · rw [ap_o hi, ap_o hj] at e; exact h7 i j hi hj e
    · subst hj; rw [ap_o hi, ap_n] at e; exact absurd e (o12 i hi)
    · subst hi; rw [ap_n, ap_o hj] at e; exact absurd e.symm (o12 j hj)
    · omega
  · rw [gI_sI, if_neg (by simp), gI_sI, if_neg (by simp), gI_sR]; exact t6
  · rw [eR_sI, eR_sI, eR_sR, t7 b hb']
    have hp : ∀ q, q < n → (fun j => decide (bkt (kh (ap kn n L j) (apf kf n F j)) = b)) q = (fun j => decide (bkt (kh (kn j) (kf j)) = b)) q := fun q hq => by simp only [hb q hq]
    cases hy : nx (fun j => decide (bkt (kh (kn j) (kf j)) = b)) 0 n with
    | none =>
      have := nx_e3 (n := n) (i := 0) hp hy (by simp only [hbn, decide_eq_true_eq]; exact fun q => nx_none hy i0 (Nat.zero_le _) (by omega) (by simp only [decide_eq_true_eq]; rw [hb0, q]))
      rw [Nat.sub_zero] at this
      rw [this]; rfl
    | some j =>
      have := nx_e1 (n := n) (i := 0) hp hy
      rw [Nat.sub_zero] at this
      rw [this]
      show some _ = some _
      rw [ap_o (by have := nx_some hy; omega)]
set_option maxHeartbeats 400000 in
theorem node_init_ok {κ : Kx} {d a b : Nat} {G : Gt} {Φ : Option Value → Gt → Prop} {Ψ : String → Nat → Gt → Prop} {o s v : Nat} {x : Int32} (h1 : gT G o = 26) (h2 : kB κ ≤ o) (k : Φ none (sR (sR (sR (sI G 26 0 o x) 26 1 o (some s)) 26 2 o (some v)) 26 3 o none)) : X κ (d + 1) mJ26_init 0 [some (.ref o), some (.int x), some (.ref s), some (.ref v), some .null] [] G a b Φ Ψ := by
  refine X_aload_n 1 dJ26_init_0 rfl rfl ?_
  refine X_objInit 4 dJ26_init_1 rfl q1548 q142 q143 (Nat.le_of_ble_eq_true rfl) ?_
  refine X_aload_n 5 dJ26_init_4 rfl rfl ?_
  refine X_iload_n 6 dJ26_init_5 rfl rfl ?_
  refine X_putI (t := 26) (k := 0) 9 dJ26_init_6 rfl rfl (by decide) (by decide) (Or.inl rfl) q1549 (Or.inr ⟨rfl, rfl⟩) rfl rfl rfl (by assumption) h1 ?_
  refine X_aload_n 10 dJ26_init_9 rfl rfl ?_
  refine X_aload_n 11 dJ26_init_10 rfl rfl ?_
  refine X_putR (t := 26) (k := 1) 14 dJ26_init_11 rfl rfl (by decide) (by decide) (Or.inl rfl) q1553 (Or.inr ⟨rfl, rfl⟩) rfl rfl rfl (by assumption) h1 ?_
  refine X_aload_n 15 dJ26_init_14 rfl rfl ?_
  refine X_aload_n 16 dJ26_init_15 rfl rfl ?_
  refine X_putR (t := 26) (k := 2) 19 dJ26_init_16 rfl rfl (by decide) (by decide) (Or.inl rfl) q1557 (Or.inl rfl) rfl rfl rfl (by assumption) h1 ?_
  refine X_aload_n 20 dJ26_init_19 rfl rfl ?_
  refine X_aloadN 22 dJ26_init_20 rfl rfl ?_
  refine X_putN (t := 26) (k := 3) 25 dJ26_init_22 rfl rfl (by decide) (by decide) (Or.inl rfl) q1559 (Or.inl rfl) rfl rfl rfl (by assumption) h1 ?_
  refine X_vret dJ26_init_25 rfl ?_
  exact k
set_option maxHeartbeats 400000 in
theorem newNode_ok {κ : Kx} {d a b : Nat} {G : Gt} {Φ : Option Value → Gt → Prop} {Ψ : String → Nat → Gt → Prop} {m s v : Nat} {x : Int32} (hm : gT G m ≠ 0) (ha : 1 ≤ a) (hb : 4 ≤ b) (k : ∀ o G', gT G o = 0 → kB κ ≤ o → Md [] G G' → gT G' o = 26 → ow G' o = some m → gI G' 26 0 o = x → gR G' 26 1 o = some s → gR G' 26 2 o = some v → gR G' 26 3 o = none → Φ (some (.ref o)) G') : X κ (d + 2) mJ22_newNode 0 [some (.ref m), some (.int x), some (.ref s), some (.ref v), some .null] [] G a b Φ Ψ := by
  refine X_new (t := 26) (a' := (a - 1)) (b' := (b - 4)) 3 dJ22_newNode_0 rfl rfl (by decide) q1529 q1544 q112 (by omega) (by omega) (fun o h0_o hB_o => ?_)
  refine X_dup 4 dJ22_newNode_3 rfl rfl ?_
  refine X_iload_n 5 dJ22_newNode_4 rfl rfl ?_
  refine X_aload_n 6 dJ22_newNode_5 rfl rfl ?_
  refine X_aload_n 7 dJ22_newNode_6 rfl rfl ?_
  refine X_aloadN 9 dJ22_newNode_7 rfl rfl ?_
  refine X_I4z 12 dJ22_newNode_9 rfl rfl mo_J26_init rfl rfl q1545 q1546 rfl rfl (Nat.le_of_ble_eq_true rfl) rfl (Nat.le_of_ble_eq_true rfl) ?_
  refine node_init_ok (by rw [gT_nw, if_pos rfl]) hB_o ?_
  refine X.gh (o := o) (w := some m) hB_o ?_
  refine X_aret dJ22_newNode_12 rfl (Or.inl ⟨_, rfl⟩) ?_
  have hmo : m ≠ o := fun q => hm (by rw [q]; exact h0_o)
  refine k o _ h0_o hB_o (((((((Md.rf [] G).nn h0_o).si (Wr.n h0_o)).sr (Wr.n h0_o)).sr (Wr.n h0_o)).sr (Wr.n h0_o)).gh (Wr.n h0_o) (by show gT (nw G o 26 0) m ≠ 0; rw [gT_nw, if_neg hmo]; exact hm)) ?_ ?_ ?_ ?_ ?_ ?_
  · show gT (nw G o 26 0) o = 26
    rw [gT_nw, if_pos rfl]
  · simp only [ow, so, gR_sR, and_self, if_true]
  · simp only [so, gI_sR, gI_sI, and_self, if_true]
  · simp [so, gR_sR]
  · simp [so, gR_sR]
  · simp [so, gR_sR]
set_option maxHeartbeats 400000 in
theorem resize0_ok {κ : Kx} {d a b : Nat} {G : Gt} {Φ : Option Value → Gt → Prop} {Ψ : String → Nat → Gt → Prop} {m : Nat} (h1 : gT G m = 25) (h2 : kB κ ≤ m) (h3 : ow G m = some m) (ht : gR G 25 2 m = none) (hth : gI G 25 6 m = 0) (ha : 1 ≤ a) (hb : 16 ≤ b) (k : ∀ tab G', Md [m] G G' → gR G' 25 2 m = some tab → gT G' tab = 104 → kB κ ≤ tab → ow G' tab = some m → gL G' tab = 16 → gI G' 25 6 m = 12 → (∀ i, eR G' tab i = none) → gI G' 25 4 m = gI G 25 4 m → ow G' m = some m → Φ (some (.ref tab)) G') : X κ (d + 1) mJ22_resize 0 [some (.ref m), none, none, none, none, none, none, none, none, none, none, none, none, none] [] G a b Φ Ψ := by
  refine X_aload_n 1 dJ22_resize_0 rfl rfl ?_
  refine X_getN (t := 25) (k := 2) 4 dJ22_resize_1 rfl rfl (by decide) (by decide) (Or.inl rfl) q828 rfl h1 ht ?_
  refine X_astoreN1 5 dJ22_resize_4 rfl (by decide) rfl ?_
  refine X_aloadN_n 6 dJ22_resize_5 rfl rfl ?_
  refine X_ifnonnullN 9 dJ22_resize_6 rfl ?_
  refine X_iconst (v := 0) 10 dJ22_resize_9 rfl (by decide) ?_
  refine X_goto 15 dJ22_resize_10 (by decide) ?_
  refine X_istore2 16 dJ22_resize_15 rfl (by decide) rfl ?_
  refine X_aload_n 17 dJ22_resize_16 rfl rfl ?_
  refine X_getI (t := 25) (k := 6) 20 dJ22_resize_17 rfl rfl (by decide) (by decide) (Or.inl rfl) q831 rfl h1 ?_
  rw [hth]
  refine X_istore3 21 dJ22_resize_20 rfl (by decide) rfl ?_
  refine X_iconst (v := 0) 22 dJ22_resize_21 rfl (by decide) ?_
  refine X_istorew5 24 dJ22_resize_22 rfl (by decide) rfl ?_
  refine X_iload_n 25 dJ22_resize_24 rfl rfl ?_
  refine X_if_le 67 28 dJ22_resize_25 (by decide) rfl (fun _ => ?_) (fun c => absurd ((by decide)) c)
  refine X_iload_n 68 dJ22_resize_67 rfl rfl ?_
  refine X_if_le 77 71 dJ22_resize_68 (by decide) rfl (fun _ => ?_) (fun c => absurd ((by decide)) c)
  refine X_bipush (v := 16) 79 dJ22_resize_77 rfl (by decide) ?_
  refine X_istorew4 81 dJ22_resize_79 rfl (by decide) rfl ?_
  refine X_bipush (v := 12) 83 dJ22_resize_81 rfl (by decide) ?_
  refine X_istorew5 85 dJ22_resize_83 rfl (by decide) rfl ?_
  refine X_iload 87 dJ22_resize_85 rfl rfl ?_
  refine X_if_ne 125 90 dJ22_resize_87 (by decide) rfl (fun _ => ?_) (fun c => absurd c ((fun q => absurd q (by decide))))
  refine X_aload_n 126 dJ22_resize_125 rfl rfl ?_
  refine X_iload 128 dJ22_resize_126 rfl rfl ?_
  refine X_putI (t := 25) (k := 6) 131 dJ22_resize_128 rfl rfl (by decide) (by decide) (Or.inl rfl) q831 (Or.inl rfl) rfl rfl rfl h2 h1 ?_
  refine X_iload 133 dJ22_resize_131 rfl rfl ?_
  refine X_anew (t := 104) (a' := (a - 1)) (b' := (b - 16)) (16) 136 dJ22_resize_133 rfl q1529 q1530 (by decide) rfl rfl (by omega) (by omega) (by omega) (fun o h0_o hB_o => ?_)
  have hmo : m ≠ o := fun q => by have e : gT G o = 0 := h0_o; rw [← q, h1] at e; cases e
  refine X_astorew6 138 dJ22_resize_136 rfl (by decide) rfl ?_
  refine X_aload_n 139 dJ22_resize_138 rfl rfl ?_
  refine X_aload 141 dJ22_resize_139 rfl rfl ?_
  refine X_putR (t := 25) (k := 2) 144 dJ22_resize_141 rfl rfl (by decide) (by decide) (Or.inl rfl) q828 (Or.inl rfl) rfl rfl rfl h2 (by rw [gT_nw, if_neg hmo]; exact h1) ?_
  refine X_aloadN_n 145 dJ22_resize_144 rfl rfl ?_
  refine X_ifnullN 353 dJ22_resize_145 (by decide) ?_
  refine X_aload 355 dJ22_resize_353 rfl rfl ?_
  refine X.gh (o := o) (w := some m) hB_o ?_
  refine X_aret dJ22_resize_355 rfl (Or.inr ⟨_, rfl⟩) ?_
  have hh : Wr [m] G m := Wr.w (List.mem_singleton.mpr rfl) h3
  refine k o _ (((((Md.rf [m] G).si hh).nn h0_o).sr hh).gh (Wr.n h0_o) (by show gT (nw _ o 104 16) m ≠ 0; rw [gT_nw, if_neg hmo]; show gT G m ≠ 0; rw [h1]; decide)) ?_ ?_ hB_o ?_ ?_ ?_ (fun i => ?_) ?_ ?_
  · simp only [so, gR_sR]; rw [if_neg (by simp), if_pos (by simp)]
  · show gT (nw _ o 104 16) o = 104
    rw [gT_nw, if_pos rfl]
  · simp only [ow, so, gR_sR, and_self, if_true]
  · show gL (nw _ o 104 16) o = 16
    rw [gL_nw, if_pos rfl]
  · simp only [so, gI_sR, gI_nw, if_neg hmo, gI_sI, and_self, if_true]
  · simp only [so, eR_sR, eR_nw, if_true]
  · simp only [so, gI_sR, gI_nw, if_neg hmo, gI_sI]; rw [if_neg (by simp)]
  · simp only [ow, so, gR_sR, gR_nw, if_neg hmo]; rw [if_neg (by simp [hmo]), if_neg (by simp)]; exact h3
set_option maxHeartbeats 400000 in
theorem ani_ok {κ : Kx} {d a b : Nat} {G : Gt} {Φ : Option Value → Gt → Prop} {Ψ : String → Nat → Gt → Prop} {m : Nat} {x : Int32} (k : Φ none G) : X κ d mJ22_afterNodeInsertion 0 [some (.ref m), some (.int x)] [] G a b Φ Ψ := by
  refine X_vret dJ22_afterNodeInsertion_0 rfl ?_
  exact k
set_option maxHeartbeats 400000 in
theorem hm_putVal_ok {κ : Kx} {d a b : Nat} {G : Gt} {Φ : Option Value → Gt → Prop} {Ψ : String → Nat → Gt → Prop} {m n s L v : Nat} {kA kn : Nat → Nat} {kf : Nat → Nat → Int32} {F : Nat → Int32} (h : HM κ G m n kA kn kf) (hn : n < 8) (hs : SH G s L F) (hv1 : gT G v = 29) (hv2 : gI G 29 0 v = nI n) (hv3 : ow G v = none) (hz : nx (fun j => teqB L F (kn j) (kf j)) 0 n = none) (ha : 2 ≤ a) (hb : 20 ≤ b) (k : ∀ G', HM κ G' m (n + 1) (ap kA n s) (ap kn n L) (apf kf n F) → Md [m] G G' → Φ (some .null) G') : X κ (d + 3) mJ22_putVal 0 [some (.ref m), some (.int (kh L F)), some (.ref s), some (.ref v), some (.int 0), some (.int 1), none, none, none, none, none, none, none] [] G a b Φ Ψ := by
  refine X_aload_n 1 dJ22_putVal_0 rfl rfl ?_
  have wm : ∀ G1 : Gt, ow G1 m = some m → Wr [m] G1 m := fun G1 h => Wr.w (List.mem_singleton.mpr rfl) h
  have tail : ∀ (G1 : Gt) (A B tab bk x8 : Nat) (L7 L10 L11 L12 : Option Value), gT G1 m = 25 → ow G1 m = some m → gI G1 25 4 m = nI n → gI G1 25 6 m = 12 → (∀ x, HM κ (sI (sI G1 25 5 m x) 25 4 m (nI (n + 1))) m (n + 1) (ap kA n s) (ap kn n L) (apf kf n F)) → Md [m] G G1 → X κ (d + 3) mJ22_putVal 259 [some (.ref m), some (.int (kh L F)), some (.ref s), some (.ref v), some (.int 0), some (.int 1), some (.ref tab), L7, some (.int (nI x8)), some (.int (nI bk)), L10, L11, L12] [] G1 A B Φ Ψ := by
    intro G1 A B tab bk x8 L7 L10 L11 L12 t1 t2 t3 t4 t5 t6
    refine X_aload_n 260 dJ22_putVal_259 rfl rfl ?_
    refine X_dup 261 dJ22_putVal_260 rfl rfl ?_
    refine X_getI (t := 25) (k := 5) 264 dJ22_putVal_261 rfl rfl (by decide) (by decide) (Or.inl rfl) q830 rfl t1 ?_
    refine X_iconst (v := 1) 265 dJ22_putVal_264 rfl (by decide) ?_
    refine X_iadd 266 dJ22_putVal_265 rfl ?_
    refine X_putI (t := 25) (k := 5) 269 dJ22_putVal_266 rfl rfl (by decide) (by decide) (Or.inl rfl) q830 (Or.inl rfl) rfl rfl rfl h.2.1 t1 ?_
    refine X_aload_n 270 dJ22_putVal_269 rfl rfl ?_
    refine X_dup 271 dJ22_putVal_270 rfl rfl ?_
    refine X_getI (t := 25) (k := 4) 274 dJ22_putVal_271 rfl rfl (by decide) (by decide) (Or.inl rfl) q829 rfl t1 ?_
    rw [gI_sI, if_neg (by simp), t3]
    refine X_iconst (v := 1) 275 dJ22_putVal_274 rfl (by decide) ?_
    refine X_iadd 276 dJ22_putVal_275 rfl ?_
    rw [nI_1]
    refine X_dup_x1 277 dJ22_putVal_276 rfl rfl rfl ?_
    refine X_putI (t := 25) (k := 4) 280 dJ22_putVal_277 rfl rfl (by decide) (by decide) (Or.inl rfl) q829 (Or.inl rfl) rfl rfl rfl h.2.1 t1 ?_
    refine X_aload_n 281 dJ22_putVal_280 rfl rfl ?_
    refine X_getI (t := 25) (k := 6) 284 dJ22_putVal_281 rfl rfl (by decide) (by decide) (Or.inl rfl) q831 rfl t1 ?_
    rw [gI_sI, if_neg (by simp), gI_sI, if_neg (by simp), t4]
    refine X_icmp_le 292 287 dJ22_putVal_284 (by decide) rfl (fun _ => ?_) (fun c => absurd ((by rw [show (12 : Int32) = nI 12 by decide]; exact nI_le (by omega) (by omega))) c)
    refine X_aload_n 293 dJ22_putVal_292 rfl rfl ?_
    refine X_iload 295 dJ22_putVal_293 rfl rfl ?_
    refine X_V1z 298 dJ22_putVal_295 rfl rfl mo_J22_afterNodeInsertion rfl q1650 q1651 q1652 rfl (RV.t (t := 25) t1 (by decide) rfl) rfl (Nat.le_of_ble_eq_true rfl) rfl (Nat.le_of_ble_eq_true rfl) ?_
    refine ani_ok ?_
    refine X_null 299 dJ22_putVal_298 rfl ?_
    refine X_aretN dJ22_putVal_299 rfl (Or.inl ⟨_, rfl⟩) ?_
    exact k _ (t5 _) ((t6.si (Wr.w (List.mem_singleton.mpr rfl) h.2.2.1)).si (Wr.w (List.mem_singleton.mpr rfl) h.2.2.1))
  have body : ∀ (G1 : Gt) (tab A B : Nat), HM κ G1 m n kA kn kf → (∀ x : Nat, ∃ nd va : Nat → Nat, (∀ i, i < n → HN κ G1 m n kA kn kf nd va i) ∧ (∀ i j, i < n → j < n → nd i = nd j → i = j) ∧ HT κ G1 m n kn kf nd tab) → gT G1 v = 29 → gI G1 29 0 v = nI n → ow G1 v = none → ST G1 s L F → Md [m] G G1 → 1 ≤ A → 4 ≤ B → X κ (d + 3) mJ22_putVal 29 [some (.ref m), some (.int (kh L F)), some (.ref s), some (.ref v), some (.int 0), some (.int 1), some (.ref tab), none, some (.int (nI 16)), none, none, none, none] [] G1 A B Φ Ψ := by
    intro G1 tab A B hM hX v1 v2 v3 s1 m1 hA hB
    obtain ⟨nd, va, p6, p7, pt⟩ := hX 0
    obtain ⟨t1, t2, t3, t4, t5, t6, t7⟩ := id pt
    have hb16 := bkt_lt (kh L F)
    have te := t7 _ hb16
    refine X_aload 31 dJ22_putVal_29 rfl rfl ?_
    refine X_iload 33 dJ22_putVal_31 rfl rfl ?_
    refine X_iconst (v := 1) 34 dJ22_putVal_33 rfl (by decide) ?_
    refine X_isub 35 dJ22_putVal_34 rfl ?_
    rw [show nI 16 - 1 = 15 by decide]
    refine X_iload_n 36 dJ22_putVal_35 rfl rfl ?_
    refine X_iand 37 dJ22_putVal_36 rfl ?_
    rw [bkt_n]
    refine X_dup 38 dJ22_putVal_37 rfl rfl ?_
    refine X_istorew9 40 dJ22_putVal_38 rfl (by decide) rfl ?_
    cases hy : nx (fun j => decide (bkt (kh (kn j) (kf j)) = bkt (kh L F))) 0 n with
    | none =>
      rw [hy] at te
      refine X_aaloadN (t := 104) ((bkt (kh L F))) 41 dJ22_putVal_40 rfl t2 (by decide) rfl (by rw [t5]; exact hb16) te ?_
      refine X_dup 42 dJ22_putVal_41 rfl rfl ?_
      refine X_astoreNw7 44 dJ22_putVal_42 rfl (by decide) rfl ?_
      refine X_ifnonnullN 47 dJ22_putVal_44 rfl ?_
      refine X_aload 49 dJ22_putVal_47 rfl rfl ?_
      refine X_iload 51 dJ22_putVal_49 rfl rfl ?_
      refine X_aload_n 52 dJ22_putVal_51 rfl rfl ?_
      refine X_iload_n 53 dJ22_putVal_52 rfl rfl ?_
      refine X_aload_n 54 dJ22_putVal_53 rfl rfl ?_
      refine X_aload_n 55 dJ22_putVal_54 rfl rfl ?_
      refine X_null 56 dJ22_putVal_55 rfl ?_
      refine X_V4 (a1 := 1) (b1 := 4) (a2 := (A - 1)) (b2 := (B - 4)) 59 dJ22_putVal_56 rfl rfl mo_J22_newNode rfl q1592 q1593 q1594 rfl (RV.t (t := 25) hM.1 (by decide) rfl) rfl (Nat.le_of_ble_eq_true rfl) rfl (Nat.le_of_ble_eq_true rfl) (by omega) (by omega) ?_
      refine newNode_ok (by rw [hM.1]; decide) (Nat.le_refl _) (Nat.le_refl _) ?_
      intro o G2 o0 oB om o1 o3 o4 o5 o6 o11
      have mM := hM.md om List.not_mem_nil
      have mS : ∀ a, ow G1 a = some m → gT G1 a ≠ 0 → agm G2 G1 a := fun a _ h => om.a h (fun _ q => absurd q List.not_mem_nil)
      have p6' : ∀ i, i < n → HN κ G2 m n kA kn kf nd va i := by
        intro i hi
        obtain ⟨g1, g2, g3, g4, g5, g6, g7, g8, g9, g10, g11⟩ := p6 i hi
        have a2 := om.a (a := nd i) (by rw [g1]; decide) (fun _ q => absurd q List.not_mem_nil)
        have a3 := om.a (a := va i) (by rw [g7]; decide) (fun _ q => absurd q List.not_mem_nil)
        exact ⟨a2.t.trans g1, g2, a2.o.trans g3, (a2.i (by decide)).trans g4, (a2.r 26 1).trans g5, (a2.r 26 2).trans g6, a3.t.trans g7, (a3.i (by decide)).trans g8, a3.o.trans g9, g10.md om, (a2.r 26 3).trans g11⟩
      have aM := om.a (a := m) (by rw [hM.1]; decide) (fun _ q => absurd q List.not_mem_nil)
      have aT := om.a (a := tab) (by rw [t2]; decide) (fun _ q => absurd q List.not_mem_nil)
      have pt' : HT κ G2 m n kn kf nd tab := ⟨(aM.r 25 2).trans t1, aT.t.trans t2, t3, aT.o.trans t4, aT.l.trans t5, (aM.i (by decide)).trans t6, fun b hb => (aT.er b).trans (t7 b hb)⟩
      have aV := om.a (a := v) (by rw [v1]; decide) (fun _ q => absurd q List.not_mem_nil)
      have hnd : ∀ j, j < n → nd j ≠ o := fun j hj q => by have z := (p6 j hj).1; rw [q, o0] at z; cases z
      refine X_aastore (t := 104) ((bkt (kh L F))) 60 dJ22_putVal_59 rfl t3 pt'.2.1 (by decide) (by decide) rfl rfl (by rw [pt'.2.2.2.2.1]; exact hb16) o1 (by decide) rfl (Or.inl rfl) ?_
      refine X_goto 259 dJ22_putVal_60 (by decide) ?_
      refine tail _ _ _ tab (bkt (kh L F)) 16 _ _ _ _ mM.1 mM.2.2.1 mM.2.2.2.1 pt'.2.2.2.2.2.1 (fun x => HM.putA mM.1 mM.2.1 mM.2.2.1 hn p6' p7 pt' o1 oB o3 o4 o5 o6 (aV.t.trans v1) ((aV.i (by decide)).trans v2) (aV.o.trans v3) (s1.md om) o11 hnd hy) ?_
      exact m1.trans (om.s0.ur (Wr.w (List.mem_singleton.mpr rfl) t4))
    | some i =>
      rw [hy] at te
      obtain ⟨z1, z2, z3, z4⟩ := nx_some hy
      have z5 : bkt (kh (kn i) (kf i)) = bkt (kh L F) := by simpa using z3
      have hi : i < n := by omega
      have hne : ∀ j, j < n → ¬ teqB L F (kn j) (kf j) = true := fun j hj => nx_none hz j (Nat.zero_le _) (by omega)
      have hks : ∀ j, j < n → ¬ kA j = s := by
        intro j hj he
        have z := (p6 j hj).2.2.2.2.2.2.2.2.2.1
        rw [he] at z
        obtain ⟨z1, z2, z3, z4, w, z5, z6, z7, z8, z9⟩ := z
        obtain ⟨y1, y2, y3, y4, w', y5, y6, y7, y8, y9⟩ := id s1
        cases z5.symm.trans y5
        exact hne j hj (teqB_iff.mpr ⟨y7.symm.trans z7, fun q hq => (y9 q hq).symm.trans (z9 q (by omega))⟩)
      have loop : ∀ rem : Nat, ∀ i c w10 L11, c1 L11 = true → i < n → n - i ≤ rem → c ≤ i → bkt (kh (kn i) (kf i)) = bkt (kh L F) → X κ (d + 3) mJ22_putVal 134 [some (.ref m), some (.int (kh L F)), some (.ref s), some (.ref v), some (.int 0), some (.int 1), some (.ref tab), some (.ref (nd i)), some (.int (nI 16)), some (.int (nI (bkt (kh L F)))), w10, L11, some (.int (nI c))] [] G1 A B Φ Ψ := by
        intro rem
        induction rem with
        | zero =>
          intro i c w10 L11 hL11 hi hr hc z5
          omega
        | succ rem ih =>
          intro i c w10 L11 hL11 hi hr hc z5
          obtain ⟨q1, q2, q3, q4, q5, q6, q7, q8, q9, q10, q11⟩ := p6 i hi
          cases hy2 : nx (fun j => decide (bkt (kh (kn j) (kf j)) = bkt (kh (kn i) (kf i)))) (i + 1) (n - (i + 1)) with
          | none =>
            refine X_aload 136 dJ22_putVal_134 rfl rfl ?_
            refine X_getN (t := 26) (k := 3) 139 dJ22_putVal_136 rfl rfl (by decide) (by decide) (Or.inl rfl) q1563 rfl q1 (by rw [q11, hy2]; rfl) ?_
            refine X_dup 140 dJ22_putVal_139 rfl rfl ?_
            refine X_astoreNw10 142 dJ22_putVal_140 rfl (by decide) rfl ?_
            refine X_ifnonnullN 145 dJ22_putVal_142 rfl ?_
            refine X_aload 147 dJ22_putVal_145 rfl rfl ?_
            refine X_aload_n 148 dJ22_putVal_147 rfl rfl ?_
            refine X_iload_n 149 dJ22_putVal_148 rfl rfl ?_
            refine X_aload_n 150 dJ22_putVal_149 rfl rfl ?_
            refine X_aload_n 151 dJ22_putVal_150 rfl rfl ?_
            refine X_null 152 dJ22_putVal_151 rfl ?_
            refine X_V4 (a1 := 1) (b1 := 4) (a2 := (A - 1)) (b2 := (B - 4)) 155 dJ22_putVal_152 rfl rfl mo_J22_newNode rfl q1592 q1593 q1594 rfl (RV.t (t := 25) hM.1 (by decide) rfl) rfl (Nat.le_of_ble_eq_true rfl) rfl (Nat.le_of_ble_eq_true rfl) (by omega) (by omega) ?_
            refine newNode_ok (by rw [hM.1]; decide) (Nat.le_refl _) (Nat.le_refl _) ?_
            intro o G2 o0 oB om o1 o3 o4 o5 o6 o11
            have mM := hM.md om List.not_mem_nil
            have mS : ∀ a, ow G1 a = some m → gT G1 a ≠ 0 → agm G2 G1 a := fun a _ h => om.a h (fun _ q => absurd q List.not_mem_nil)
            have p6' : ∀ i, i < n → HN κ G2 m n kA kn kf nd va i := by
              intro i hi
              obtain ⟨g1, g2, g3, g4, g5, g6, g7, g8, g9, g10, g11⟩ := p6 i hi
              have a2 := om.a (a := nd i) (by rw [g1]; decide) (fun _ q => absurd q List.not_mem_nil)
              have a3 := om.a (a := va i) (by rw [g7]; decide) (fun _ q => absurd q List.not_mem_nil)
              exact ⟨a2.t.trans g1, g2, a2.o.trans g3, (a2.i (by decide)).trans g4, (a2.r 26 1).trans g5, (a2.r 26 2).trans g6, a3.t.trans g7, (a3.i (by decide)).trans g8, a3.o.trans g9, g10.md om, (a2.r 26 3).trans g11⟩
            have aM := om.a (a := m) (by rw [hM.1]; decide) (fun _ q => absurd q List.not_mem_nil)
            have aT := om.a (a := tab) (by rw [t2]; decide) (fun _ q => absurd q List.not_mem_nil)
            have pt' : HT κ G2 m n kn kf nd tab := ⟨(aM.r 25 2).trans t1, aT.t.trans t2, t3, aT.o.trans t4, aT.l.trans t5, (aM.i (by decide)).trans t6, fun b hb => (aT.er b).trans (t7 b hb)⟩
            have aV := om.a (a := v) (by rw [v1]; decide) (fun _ q => absurd q List.not_mem_nil)
            have hnd : ∀ j, j < n → nd j ≠ o := fun j hj q => by have z := (p6 j hj).1; rw [q, o0] at z; cases z
            refine X_putR (t := 26) (k := 3) 158 dJ22_putVal_155 rfl rfl (by decide) (by decide) (Or.inl rfl) q1563 (Or.inl rfl) rfl rfl rfl q2 (p6' i hi).1 ?_
            refine X_iload 160 dJ22_putVal_158 rfl rfl ?_
            refine X_bipush (v := 7) 162 dJ22_putVal_160 rfl (by decide) ?_
            refine X_icmp_lt 222 165 dJ22_putVal_162 (by decide) rfl (fun _ => ?_) (fun c => absurd ((by rw [show (7 : Int32) = nI 7 by decide]; exact nI_lt (by omega) (by omega))) c)
            refine X_aloadN 224 dJ22_putVal_222 rfl rfl ?_
            refine X_ifnullN 259 dJ22_putVal_224 (by decide) ?_
            refine tail _ _ _ tab (bkt (kh L F)) 16 _ _ _ _ mM.1 (by show gR (sR G2 26 3 (nd i) (some o)) 0 0 m = _; rw [gR_sR, if_neg (by simp)]; exact mM.2.2.1) mM.2.2.2.1 pt'.2.2.2.2.2.1 (fun x => HM.putB mM.1 mM.2.1 mM.2.2.1 hn p6' p7 pt' o1 oB o3 o4 o5 o6 (aV.t.trans v1) ((aV.i (by decide)).trans v2) (aV.o.trans v3) (s1.md om) o11 hnd hi z5 hy2) ?_
            exact m1.trans (om.s0.sr (Wr.w (List.mem_singleton.mpr rfl) q3))
          | some i2 =>
            obtain ⟨y1, y2, y3, y4⟩ := nx_some hy2
            have y5 : bkt (kh (kn i2) (kf i2)) = bkt (kh L F) := by rw [← z5]; simpa using y3
            have hi2 : i2 < n := by omega
            refine X_aload 136 dJ22_putVal_134 rfl rfl ?_
            refine X_getR (t := 26) (k := 3) (o := (nd i2)) 139 dJ22_putVal_136 rfl rfl (by decide) (by decide) (Or.inl rfl) q1563 rfl q1 (by rw [q11, hy2]; rfl) ?_
            refine X_dup 140 dJ22_putVal_139 rfl rfl ?_
            refine X_astorew10 142 dJ22_putVal_140 rfl (by decide) rfl ?_
            refine X_ifnonnull 175 dJ22_putVal_142 (by decide) ?_
            refine X_aload 177 dJ22_putVal_175 rfl rfl ?_
            obtain ⟨q1, q2, q3, q4, q5, q6, q7, q8, q9, q10, q11⟩ := p6 i2 hi2
            refine X_getI (t := 26) (k := 0) 180 dJ22_putVal_177 rfl rfl (by decide) (by decide) (Or.inl rfl) q1552 rfl q1 ?_
            rw [q4]
            refine X_iload_n 181 dJ22_putVal_180 rfl rfl ?_
            refine X_icmp_ne 212 184 dJ22_putVal_181 (by decide) rfl (fun c_181 => ?_) (fun c_181 => ?_)
            · refine X_aload 214 dJ22_putVal_212 rfl rfl ?_
              refine X_astorew7 216 dJ22_putVal_214 rfl (by decide) rfl ?_
              refine X_iinc12 (v := nI (c + 1)) 219 dJ22_putVal_216 rfl (nI_1 c) (by decide) (by first | rfl | assumption) ?_
              refine X_goto 134 dJ22_putVal_219 (by decide) ?_
              exact ih i2 (c + 1) _ _ (by first | rfl | assumption) hi2 (by omega) (by omega) y5
            · refine X_aload 186 dJ22_putVal_184 rfl rfl ?_
              refine X_getR (t := 26) (k := 1) 189 dJ22_putVal_186 rfl rfl (by decide) (by decide) (Or.inl rfl) q1556 rfl q1 q5 ?_
              refine X_dup 190 dJ22_putVal_189 rfl rfl ?_
              refine X_astorew11 192 dJ22_putVal_190 rfl (by decide) rfl ?_
              refine X_aload_n 193 dJ22_putVal_192 rfl rfl ?_
              refine X_acmp_eq 222 196 dJ22_putVal_193 (by decide) rfl (fun c => absurd c (hks i2 hi2)) (fun _ => ?_)
              refine X_aload_n 197 dJ22_putVal_196 rfl rfl ?_
              refine X_ifnull 200 dJ22_putVal_197 rfl ?_
              refine X_aload_n 201 dJ22_putVal_200 rfl rfl ?_
              refine X_aload 203 dJ22_putVal_201 rfl rfl ?_
              refine X_U1z (owner := "java/lang/Object") 206 dJ22_putVal_203 rfl rfl mo_J5_equals rfl q1088 q1090 q1142 q659 (Or.inr (Or.inl q1087)) (by decide) rfl (RV.t (t := 27) s1.1 (by decide) rfl) rfl (Nat.le_of_ble_eq_true rfl) rfl (Nat.le_of_ble_eq_true rfl) ?_
              refine sequals_ok (D := teqD L F (kn i2) (kf i2)) s1 q10 ?_
              rw [(teqB_b L F (kn i2) (kf i2)).mpr (hne i2 hi2)]
              refine X_if_eq 212 209 dJ22_putVal_206 (by decide) rfl (fun _ => ?_) (fun c => absurd (rfl) c)
              refine X_aload 214 dJ22_putVal_212 rfl rfl ?_
              refine X_astorew7 216 dJ22_putVal_214 rfl (by decide) rfl ?_
              refine X_iinc12 (v := nI (c + 1)) 219 dJ22_putVal_216 rfl (nI_1 c) (by decide) (by first | rfl | assumption) ?_
              refine X_goto 134 dJ22_putVal_219 (by decide) ?_
              exact ih i2 (c + 1) _ _ (by first | rfl | assumption) hi2 (by omega) (by omega) y5
      obtain ⟨q1, q2, q3, q4, q5, q6, q7, q8, q9, q10, q11⟩ := p6 i hi
      refine X_aaload (o := (nd i)) (t := 104) ((bkt (kh L F))) 41 dJ22_putVal_40 rfl t2 (by decide) rfl (by rw [t5]; exact hb16) te ?_
      refine X_dup 42 dJ22_putVal_41 rfl rfl ?_
      refine X_astorew7 44 dJ22_putVal_42 rfl (by decide) rfl ?_
      refine X_ifnonnull 63 dJ22_putVal_44 (by decide) ?_
      refine X_aload 65 dJ22_putVal_63 rfl rfl ?_
      refine X_getI (t := 26) (k := 0) 68 dJ22_putVal_65 rfl rfl (by decide) (by decide) (Or.inl rfl) q1552 rfl q1 ?_
      rw [q4]
      refine X_iload_n 69 dJ22_putVal_68 rfl rfl ?_
      refine X_icmp_ne 104 72 dJ22_putVal_69 (by decide) rfl (fun c_69 => ?_) (fun c_69 => ?_)
      · refine X_aload 106 dJ22_putVal_104 rfl rfl ?_
        refine X_instNo (t := 26) 109 dJ22_putVal_106 rfl q1 (by decide) rfl q1148 (by decide) ?_
        refine X_if_eq 131 112 dJ22_putVal_109 (by decide) rfl (fun _ => ?_) (fun c => absurd (rfl) c)
        refine X_iconst (v := 0) 132 dJ22_putVal_131 rfl (by decide) ?_
        refine X_istorew12 134 dJ22_putVal_132 rfl (by decide) rfl ?_
        exact loop n i 0 _ _ rfl hi (by omega) (Nat.zero_le _) z5
      · refine X_aload 74 dJ22_putVal_72 rfl rfl ?_
        refine X_getR (t := 26) (k := 1) 77 dJ22_putVal_74 rfl rfl (by decide) (by decide) (Or.inl rfl) q1556 rfl q1 q5 ?_
        refine X_dup 78 dJ22_putVal_77 rfl rfl ?_
        refine X_astorew11 80 dJ22_putVal_78 rfl (by decide) rfl ?_
        refine X_aload_n 81 dJ22_putVal_80 rfl rfl ?_
        refine X_acmp_eq 97 84 dJ22_putVal_81 (by decide) rfl (fun c => absurd c (hks i hi)) (fun _ => ?_)
        refine X_aload_n 85 dJ22_putVal_84 rfl rfl ?_
        refine X_ifnull 88 dJ22_putVal_85 rfl ?_
        refine X_aload_n 89 dJ22_putVal_88 rfl rfl ?_
        refine X_aload 91 dJ22_putVal_89 rfl rfl ?_
        refine X_U1z (owner := "java/lang/Object") 94 dJ22_putVal_91 rfl rfl mo_J5_equals rfl q1088 q1090 q1142 q659 (Or.inr (Or.inl q1087)) (by decide) rfl (RV.t (t := 27) s1.1 (by decide) rfl) rfl (Nat.le_of_ble_eq_true rfl) rfl (Nat.le_of_ble_eq_true rfl) ?_
        refine sequals_ok (D := teqD L F (kn i) (kf i)) s1 q10 ?_
        rw [(teqB_b L F (kn i) (kf i)).mpr (hne i hi)]
        refine X_if_eq 104 97 dJ22_putVal_94 (by decide) rfl (fun _ => ?_) (fun c => absurd (rfl) c)
        refine X_aload 106 dJ22_putVal_104 rfl rfl ?_
        refine X_instNo (t := 26) 109 dJ22_putVal_106 rfl q1 (by decide) rfl q1148 (by decide) ?_
        refine X_if_eq 131 112 dJ22_putVal_109 (by decide) rfl (fun _ => ?_) (fun c => absurd (rfl) c)
        refine X_iconst (v := 0) 132 dJ22_putVal_131 rfl (by decide) ?_
        refine X_istorew12 134 dJ22_putVal_132 rfl (by decide) rfl ?_
        exact loop n i 0 _ _ rfl hi (by omega) (Nat.zero_le _) z5
  obtain ⟨h1, h2, h3, h4, h5, nd, va, h6, h7, h8⟩ := id h
  rcases h8 with ⟨g1, g2, g3⟩ | ⟨tab, g⟩
  · refine X_getN (t := 25) (k := 2) 4 dJ22_putVal_1 rfl rfl (by decide) (by decide) (Or.inl rfl) q828 rfl h1 g2 ?_
    refine X_dup 5 dJ22_putVal_4 rfl rfl ?_
    refine X_astoreNw6 7 dJ22_putVal_5 rfl (by decide) rfl ?_
    refine X_ifnullN 19 dJ22_putVal_7 (by decide) ?_
    refine X_aload_n 20 dJ22_putVal_19 rfl rfl ?_
    refine X_V0 (a1 := 1) (b1 := 16) (a2 := (a - 1)) (b2 := (b - 16)) 23 dJ22_putVal_20 rfl rfl mo_J22_resize rfl q1522 q1523 q1524 rfl (RV.t (t := 25) h1 (by decide) rfl) rfl (Nat.le_of_ble_eq_true rfl) rfl (Nat.le_of_ble_eq_true rfl) (by omega) (by omega) ?_
    refine resize0_ok h1 h2 h3 g2 g3 (Nat.le_refl _) (Nat.le_refl _) ?_
    intro tab G1 m1 t1 t2 t3 t4 t5 t6 t7 t8 t9
    have a1 := m1.k (a := m) (by rw [h1]; decide)
    have aV := m1.a (a := v) (by rw [hv1]; decide) (fun _ _ => by rw [hv3]; exact fun q => by cases q)
    refine X_dup 24 dJ22_putVal_23 rfl rfl ?_
    refine X_astorew6 26 dJ22_putVal_24 rfl (by decide) rfl ?_
    refine X_alen (t := 104) 27 dJ22_putVal_26 rfl t2 (by decide) ?_
    rw [t5]
    refine X_istorew8 29 dJ22_putVal_27 rfl (by decide) rfl ?_
    have pT : HT κ G1 m n kn kf nd tab := ⟨t1, t2, t3, t4, t5, t6, fun b _ => by rw [t7, g1]; rfl⟩
    have hW : ow G1 m = some m := t9
    have pH : HM κ G1 m n kA kn kf := ⟨a1.trans h1, h2, hW, t8.trans h4, h5, nd, va, fun i hi => by omega, h7, Or.inr ⟨tab, pT⟩⟩
    exact body G1 tab _ _ pH (fun _ => ⟨nd, va, fun i hi => by omega, h7, pT⟩) (aV.t.trans hv1) ((aV.i (by decide)).trans hv2) (aV.o.trans hv3) (hs.1.md m1) m1 (by omega) (by omega)
  · refine X_getR (t := 25) (k := 2) 4 dJ22_putVal_1 rfl rfl (by decide) (by decide) (Or.inl rfl) q828 rfl h1 g.1 ?_
    refine X_dup 5 dJ22_putVal_4 rfl rfl ?_
    refine X_astorew6 7 dJ22_putVal_5 rfl (by decide) rfl ?_
    refine X_ifnull 10 dJ22_putVal_7 rfl ?_
    refine X_aload 12 dJ22_putVal_10 rfl rfl ?_
    refine X_alen (t := 104) 13 dJ22_putVal_12 rfl g.2.1 (by decide) ?_
    rw [g.2.2.2.2.1]
    refine X_dup 14 dJ22_putVal_13 rfl rfl ?_
    refine X_istorew8 16 dJ22_putVal_14 rfl (by decide) rfl ?_
    refine X_if_ne 29 19 dJ22_putVal_16 (by decide) rfl (fun _ => ?_) (fun c => absurd c ((fun q => absurd q (by decide))))
    exact body G tab _ _ h (fun _ => ⟨nd, va, h6, h7, g⟩) hv1 hv2 hv3 hs.1 (Md.rf _ _) (by omega) (by omega)
set_option maxHeartbeats 400000 in
theorem hm_put_ok {κ : Kx} {d a b : Nat} {G : Gt} {Φ : Option Value → Gt → Prop} {Ψ : String → Nat → Gt → Prop} {m n s L v : Nat} {kA kn : Nat → Nat} {kf : Nat → Nat → Int32} {F : Nat → Int32} (h : HM κ G m n kA kn kf) (hn : n < 8) (hs : SH G s L F) (hB : kB κ ≤ s) (hv1 : gT G v = 29) (hv2 : gI G 29 0 v = nI n) (hv3 : ow G v = none) (hz : nx (fun j => teqB L F (kn j) (kf j)) 0 n = none) (ha : 2 ≤ a) (hb : 20 ≤ b) (k : ∀ G', HM κ G' m (n + 1) (ap kA n s) (ap kn n L) (apf kf n F) → Md [m] G G' → Φ (some .null) G') : X κ (d + 5) mJ22_put 0 [some (.ref m), some (.ref s), some (.ref v)] [] G a b Φ Ψ := by
  refine X_aload_n 1 dJ22_put_0 rfl rfl ?_
  refine X_aload_n 2 dJ22_put_1 rfl rfl ?_
  refine X_S1z 5 dJ22_put_2 rfl rfl mo_J22_hash rfl q967 q968 rfl (Nat.le_of_ble_eq_true rfl) rfl (Nat.le_of_ble_eq_true rfl) ?_
  refine hm_hash_ok hs hB ?_
  intro G1 m1
  have aV := m1.a (a := v) (by rw [hv1]; decide) (fun _ q => absurd q List.not_mem_nil)
  refine X_aload_n 6 dJ22_put_5 rfl rfl ?_
  refine X_aload_n 7 dJ22_put_6 rfl rfl ?_
  refine X_iconst (v := 0) 8 dJ22_put_7 rfl (by decide) ?_
  refine X_iconst (v := 1) 9 dJ22_put_8 rfl (by decide) ?_
  refine X_V5 (a1 := 2) (b1 := 20) (a2 := (a - 2)) (b2 := (b - 20)) 12 dJ22_put_9 rfl rfl mo_J22_putVal rfl q1518 q1519 q1520 rfl (RV.t (t := 25) (m1.kt h.1 (by decide)) (by decide) rfl) rfl (Nat.le_of_ble_eq_true rfl) rfl (Nat.le_of_ble_eq_true rfl) (by omega) (by omega) ?_
  refine hm_putVal_ok (h.md m1 List.not_mem_nil) hn (hs.md m1) (aV.t.trans hv1) ((aV.i (by decide)).trans hv2) (aV.o.trans hv3) hz (Nat.le_refl _) (Nat.le_refl _) ?_
  intro G2 g1 g2
  refine X_aretN dJ22_put_12 rfl (Or.inl ⟨_, rfl⟩) ?_
  exact k G2 g1 (m1.s0.trans g2)

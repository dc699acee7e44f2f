set_option maxRecDepth 100000
/-! ===== a day: the planets ===== -/
def gwV (v : Sv) (p : Nat → Nat → Int32) : Sv := (vD v, p, vN v, vB v, vF v)
theorem SK.go {κ : Kx} {G G' : Gt} {sky l cap sb cs i : Nat} {ps : Nat → Nat} {v : Sv} {p : Nat → Int32} (h : SK κ G sky l ps cap sb cs v) (hi : i < vN v) (hp : PL κ G' sky (ps i) p) (he : p 4 = vP v i 4) (ho : ∀ q, q ≠ ps i → agr G' G q) (m : Md [sky] G G') : SK κ G' sky l ps cap sb cs (gwV v (fun j => if j = i then p else vP v j)) := by
  obtain ⟨g1, g2, g3, g4, g5, g6, g7, g8, g9, g10, g11⟩ := h
  have hs : sky ≠ ps i := fun e => by have := (g7 i hi).1; rw [← e, g1] at this; cases this
  have hl : l ≠ sky := fun e => by have := g6.1; rw [e, g1] at this; cases this
  have hb : sb ≠ sky := fun e => by have := g10.1; rw [e, g1] at this; cases this
  have a1 := ho sky hs
  refine ⟨a1.1.trans g1, g2, (a1.2.2.1 0 0).trans g3, (a1.2.1 3 4).trans g4, (a1.2.2.1 3 0).trans g5, g6.md m (by simp only [List.mem_singleton]; exact hl), fun j hj => ?_, g8, (a1.2.2.1 3 3).trans g9, g10.md m (by simp only [List.mem_singleton]; exact hb), fun j hj => ?_⟩
  · show PL κ G' sky (ps j) (if j = i then p else vP v j)
    by_cases e : j = i
    · subst e; rw [if_pos rfl]; exact hp
    · rw [if_neg e]
      have aj := ho (ps j) (fun q => e (g8 j i hj hi q))
      obtain ⟨y1, y2, y3, y4⟩ := g7 j hj
      exact ⟨aj.1.trans y1, y2, (aj.2.2.1 0 0).trans y3, fun k h1 h2 => (aj.2.1 4 k).trans (y4 k h1 h2)⟩
  · show ¬ (if j = i then p else vP v j) 4 = 0
    by_cases e : j = i
    · subst e; rw [if_pos rfl, he]; exact g11 j hj
    · rw [if_neg e]; exact g11 j hj

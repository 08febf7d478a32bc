/-! LEX 2: the reader's state (printed by a small program) -/
set_option maxRecDepth 100000
section PSS
variable {s : Sg} {L : Lq} {G : Gq}
theorem ps_s7 {x : Int32} : (hp (ps s L G)).set 625 (.inr (2, (mfl (ps s L G)).set 7 (.int x))) = hp (ps s (x, L.2.1, L.2.2.1, L.2.2.2.1, L.2.2.2.2) G) := by
  rw [sM7]
  have e : up (ps s L G).S 7 x = (ps s (x, L.2.1, L.2.2.1, L.2.2.2.1, L.2.2.2.2) G).S := by
    funext j
    by_cases h : j = 7
    · rw [h, up_eq]; rfl
    · rw [up_ne h]
      unfold ps Sg.S
      dsimp only
      simp only [h, if_false]
  show hp ((ps s L G).A, up (ps s L G).S 7 x, (ps s L G).2.2) = _
  rw [e]
  rfl
theorem ps_s8 {x : Int32} : (hp (ps s L G)).set 625 (.inr (2, (mfl (ps s L G)).set 8 (.int x))) = hp (ps s (L.1, x, L.2.2.1, L.2.2.2.1, L.2.2.2.2) G) := by
  rw [sM8]
  have e : up (ps s L G).S 8 x = (ps s (L.1, x, L.2.2.1, L.2.2.2.1, L.2.2.2.2) G).S := by
    funext j
    by_cases h : j = 8
    · rw [h, up_eq]; rfl
    · rw [up_ne h]
      unfold ps Sg.S
      dsimp only
      simp only [h, if_false]
  show hp ((ps s L G).A, up (ps s L G).S 8 x, (ps s L G).2.2) = _
  rw [e]
  rfl
theorem ps_s9 {x : Int32} : (hp (ps s L G)).set 625 (.inr (2, (mfl (ps s L G)).set 9 (.int x))) = hp (ps s (L.1, L.2.1, x, L.2.2.2.1, L.2.2.2.2) G) := by
  rw [sM9]
  have e : up (ps s L G).S 9 x = (ps s (L.1, L.2.1, x, L.2.2.2.1, L.2.2.2.2) G).S := by
    funext j
    by_cases h : j = 9
    · rw [h, up_eq]; rfl
    · rw [up_ne h]
      unfold ps Sg.S
      dsimp only
      simp only [h, if_false]
  show hp ((ps s L G).A, up (ps s L G).S 9 x, (ps s L G).2.2) = _
  rw [e]
  rfl
theorem ps_s10 {x : Int32} : (hp (ps s L G)).set 625 (.inr (2, (mfl (ps s L G)).set 10 (.int x))) = hp (ps s (L.1, L.2.1, L.2.2.1, x, L.2.2.2.2) G) := by
  rw [sM10]
  have e : up (ps s L G).S 10 x = (ps s (L.1, L.2.1, L.2.2.1, x, L.2.2.2.2) G).S := by
    funext j
    by_cases h : j = 10
    · rw [h, up_eq]; rfl
    · rw [up_ne h]
      unfold ps Sg.S
      dsimp only
      simp only [h, if_false]
  show hp ((ps s L G).A, up (ps s L G).S 10 x, (ps s L G).2.2) = _
  rw [e]
  rfl
theorem ps_s13 {x : Int32} : (hp (ps s L G)).set 625 (.inr (2, (mfl (ps s L G)).set 13 (.int x))) = hp (ps s L (x, G.2.1, G.2.2.1, G.2.2.2.1, G.2.2.2.2.1, G.2.2.2.2.2)) := by
  rw [sM13]
  have e : up (ps s L G).S 13 x = (ps s L (x, G.2.1, G.2.2.1, G.2.2.2.1, G.2.2.2.2.1, G.2.2.2.2.2)).S := by
    funext j
    by_cases h : j = 13
    · rw [h, up_eq]; rfl
    · rw [up_ne h]
      unfold ps Sg.S
      dsimp only
      simp only [h, if_false]
  show hp ((ps s L G).A, up (ps s L G).S 13 x, (ps s L G).2.2) = _
  rw [e]
  rfl
theorem ps_s16 {x : Int32} : (hp (ps s L G)).set 625 (.inr (2, (mfl (ps s L G)).set 16 (.int x))) = hp (ps s L (G.1, x, G.2.2.1, G.2.2.2.1, G.2.2.2.2.1, G.2.2.2.2.2)) := by
  rw [sM16]
  have e : up (ps s L G).S 16 x = (ps s L (G.1, x, G.2.2.1, G.2.2.2.1, G.2.2.2.2.1, G.2.2.2.2.2)).S := by
    funext j
    by_cases h : j = 16
    · rw [h, up_eq]; rfl
    · rw [up_ne h]
      unfold ps Sg.S
      dsimp only
      simp only [h, if_false]
  show hp ((ps s L G).A, up (ps s L G).S 16 x, (ps s L G).2.2) = _
  rw [e]
  rfl
theorem ps_s17 {x : Int32} : (hp (ps s L G)).set 625 (.inr (2, (mfl (ps s L G)).set 17 (.int x))) = hp (ps s L (G.1, G.2.1, x, G.2.2.2.1, G.2.2.2.2.1, G.2.2.2.2.2)) := by
  rw [sM17]
  have e : up (ps s L G).S 17 x = (ps s L (G.1, G.2.1, x, G.2.2.2.1, G.2.2.2.2.1, G.2.2.2.2.2)).S := by
    funext j
    by_cases h : j = 17
    · rw [h, up_eq]; rfl
    · rw [up_ne h]
      unfold ps Sg.S
      dsimp only
      simp only [h, if_false]
  show hp ((ps s L G).A, up (ps s L G).S 17 x, (ps s L G).2.2) = _
  rw [e]
  rfl
theorem ps_s18 {x : Int32} : (hp (ps s L G)).set 625 (.inr (2, (mfl (ps s L G)).set 18 (.int x))) = hp (ps s L (G.1, G.2.1, G.2.2.1, x, G.2.2.2.2.1, G.2.2.2.2.2)) := by
  rw [sM18]
  have e : up (ps s L G).S 18 x = (ps s L (G.1, G.2.1, G.2.2.1, x, G.2.2.2.2.1, G.2.2.2.2.2)).S := by
    funext j
    by_cases h : j = 18
    · rw [h, up_eq]; rfl
    · rw [up_ne h]
      unfold ps Sg.S
      dsimp only
      simp only [h, if_false]
  show hp ((ps s L G).A, up (ps s L G).S 18 x, (ps s L G).2.2) = _
  rw [e]
  rfl
theorem ps_sw {x : Int64} : (hp (ps s L G)).set 625 (.inr (2, (mfl (ps s L G)).set 11 (.long x))) = hp (ps s (L.1, L.2.1, L.2.2.1, L.2.2.2.1, x) G) := by
  rw [sMw]
  rfl
theorem ps_g628 : (hp (ps s L G)).g 628 = some (ia 2820 G.2.2.2.2.1) := g628
theorem ps_s628 {f : Nat → Int32} : (hp (ps s L G)).set 628 (ia 2820 f) = hp (ps s L (G.1, G.2.1, G.2.2.1, G.2.2.2.1, f, G.2.2.2.2.2)) := by
  rw [s628]
  have e : up (ps s L G).A 628 f = (ps s L (G.1, G.2.1, G.2.2.1, G.2.2.2.1, f, G.2.2.2.2.2)).A := by
    funext j
    by_cases h : j = 628
    · rw [h, up_eq]; rfl
    · rw [up_ne h]
      unfold ps Sg.A
      dsimp only
      simp only [h, if_false]
  show hp (up (ps s L G).A 628 f, (ps s L G).2) = _
  rw [e]
  rfl
theorem ps_g630 : (hp (ps s L G)).g 630 = some (ia 160 G.2.2.2.2.2) := g630
theorem ps_s630 {f : Nat → Int32} : (hp (ps s L G)).set 630 (ia 160 f) = hp (ps s L (G.1, G.2.1, G.2.2.1, G.2.2.2.1, G.2.2.2.2.1, f)) := by
  rw [s630]
  have e : up (ps s L G).A 630 f = (ps s L (G.1, G.2.1, G.2.2.1, G.2.2.2.1, G.2.2.2.2.1, f)).A := by
    funext j
    by_cases h : j = 630
    · rw [h, up_eq]; rfl
    · rw [up_ne h]
      unfold ps Sg.A
      dsimp only
      simp only [h, if_false]
  show hp (up (ps s L G).A 630 f, (ps s L G).2) = _
  rw [e]
  rfl
theorem ps_g629 : (hp (ps s L G)).g 629 = some (ia 300 (s.A 629)) := g629
theorem ps_g626 : (hp (ps s L G)).g 626 = some (ia 2308 (s.A 626)) := g626
end PSS

/-! the best lists: the two ways to find them agree -/
def Se (P : Nat → Nat → Bool) (wa wb : Nat → Nat → Nat) (n : Nat) : Nat → Nat → Nat → Nat → Prop
  | 0, s, A, B => s = 0 ∧ A = 0 ∧ B = 0
  | k + 1, s, A, B => ∃ q A1 B1, P (n - (k + 1)) q = true ∧ nd q s = 0 ∧ Se P wa wb n k (nd s q) A1 B1 ∧ A = A1 + wa (n - (k + 1)) q ∧ B = B1 + wb (n - (k + 1)) q
/-- one step of the best -/
def gS (F : Nat → Bool) (C D : Nat → Nat) (s q v : Nat) : Nat := if nd q s = 0 ∧ D (nd s q) < FARc ∧ F q = true then (if C q + D (nd s q) < v then C q + D (nd s q) else v) else v
def CV (F : Nat → Nat → Bool) (C : Nat → Nat → Nat) (n : Nat) : Nat → Nat → Nat
  | 0, s => if s = 0 then 0 else FARc
  | k + 1, s => fA (gS (F (n - (k + 1))) (C (n - (k + 1))) (CV F C n k) s) s (CV F C n k s) 10
theorem gS_le {F : Nat → Bool} {C D : Nat → Nat} {s q v : Nat} : gS F C D s q v ≤ v := by
  unfold gS
  split
  · split <;> omega
  · exact Nat.le_refl _
theorem CV_cap (F : Nat → Nat → Bool) (C : Nat → Nat → Nat) (n : Nat) : ∀ k s, CV F C n k s ≤ FARc
  | 0, s => by
    unfold CV
    split
    · exact Nat.zero_le _
    · exact Nat.le_refl _
  | k + 1, s => by
    rw [CV]
    exact fA_inv (P := fun v => v ≤ FARc) (fun _ _ _ _ _ _ q => Nat.le_trans gS_le q) (CV_cap F C n k s) 10 (Nat.le_refl _)
/-- what is asked of weights -/
def WOk (P F : Nat → Nat → Bool) (W C wa wb : Nat → Nat → Nat) (n A0 α β : Nat) : Prop := n ≤ 10 ∧ A0 < 1024 ∧ 0 < β ∧ β ≤ α ∧ (∀ r q, r < n → P r q = true → nd q A0 = 0 ∧ F r q = true ∧ cnt q.testBit 10 ≤ 2 ∧ W r q = α * wa r q + wb r q ∧ W r q ≤ 400000 ∧ C r q = β * wa r q + wb r q ∧ C r q ≤ 400000) ∧ (∀ r q, r < n → nd q A0 = 0 → F r q = true → P r q = true) ∧ (∀ r, r < n → P r 0 = true ∧ wa r 0 = 0 ∧ wb r 0 = 0) ∧ ∀ k s A B, k ≤ n → s < 1024 → Se P wa wb n k s A B → B < β
section
variable {P F : Nat → Nat → Bool} {W C wa wb : Nat → Nat → Nat} {n A0 α β : Nat}
theorem LD_se (h : WOk P F W C wa wb n A0 α β) : ∀ k s A B, k ≤ n → Se P wa wb n k s A B → LD P W n k s ≤ α * A + B ∧ ¬ LD P W n k s = FARn
  | 0, s, A, B, _, ⟨h1, h2, h3⟩ => by
    subst h1; subst h2; subst h3
    exact ⟨by unfold LD; simp, by unfold LD; simp⟩
  | k + 1, s, A, B, hk, ⟨q, A1, B1, h1, h2, h3, h4, h5⟩ => by
    obtain ⟨ih1, ih2⟩ := LD_se h k (nd s q) A1 B1 (by omega) h3
    obtain ⟨p1, p2, p3, p4, p5, -⟩ := h.2.2.2.2.1 (n - (k + 1)) q (by omega) h1
    have hq : q < 1024 := sub_lt2 (n := 10) p1 h.2.1
    have hle := ldB_le (w := W (n - (k + 1))) hq h1 h2 ih2
    have hb := (LD_b (P := P) (W := W) (n := n) (B := 400000) (fun r y hr hp => (h.2.2.2.2.1 r y hr hp).2.2.2.2.1) k (nd s q) (by omega)).resolve_left ih2
    have hn := h.1
    have hFAR : FARn = 1073741824 := rfl
    subst h4; subst h5
    rw [LD, Nat.mul_add]
    refine ⟨by omega, fun e => ?_⟩
    rw [e] at hle
    have : 400000 * k ≤ 400000 * 10 := Nat.mul_le_mul_left _ (by omega)
    omega
theorem LD_at (h : WOk P F W C wa wb n A0 α β) : ∀ k s, k ≤ n → ¬ LD P W n k s = FARn → ∃ A B, Se P wa wb n k s A B ∧ LD P W n k s = α * A + B
  | 0, s, _, hf => by
    unfold LD at hf ⊢
    by_cases h0 : s = 0
    · rw [if_pos h0]
      exact ⟨0, 0, ⟨h0, rfl, rfl⟩, by simp⟩
    · rw [if_neg h0] at hf
      exact absurd rfl hf
  | k + 1, s, hk, hf => by
    rw [LD] at hf ⊢
    obtain ⟨q, h1, h2, h3, h4, h5⟩ := ldB_att hf
    obtain ⟨A, B, g1, g2⟩ := LD_at h k (nd s q) (by omega) h4
    obtain ⟨p1, p2, p3, p4, p5, -⟩ := h.2.2.2.2.1 (n - (k + 1)) q (by omega) h2
    refine ⟨A + wa (n - (k + 1)) q, B + wb (n - (k + 1)) q, ⟨q, A, B, h2, h3, g1, rfl, rfl⟩, ?_⟩
    rw [← h5, g2, p4, Nat.mul_add]
    omega
theorem CV_se (h : WOk P F W C wa wb n A0 α β) : ∀ k s A B, k ≤ n → nd s A0 = 0 → Se P wa wb n k s A B → CV F C n k s ≤ β * A + B ∧ β * A + B ≤ 400000 * k
  | 0, s, A, B, _, _, ⟨h1, h2, h3⟩ => by
    subst h1; subst h2; subst h3
    exact ⟨by unfold CV; simp, by simp⟩
  | k + 1, s, A, B, hk, hs, ⟨q, A1, B1, h1, h2, h3, h4, h5⟩ => by
    obtain ⟨ih1, ih2⟩ := CV_se h k (nd s q) A1 B1 (by omega) (nd_tr (nd_l _ _) hs) h3
    obtain ⟨p1, p2, p3, p4, p5, p6, p7⟩ := h.2.2.2.2.1 (n - (k + 1)) q (by omega) h1
    subst h4; subst h5
    rw [Nat.mul_add, Nat.mul_succ]
    refine ⟨?_, by omega⟩
    rw [CV]
    by_cases h0 : q = 0
    · subst h0
      rw [(nd_0 s).1] at ih1
      exact fA_inv (P := fun v => v ≤ _) (fun _ _ _ _ _ _ z => Nat.le_trans gS_le z) (by omega) 10 (Nat.le_refl _)
    · obtain ⟨a, b, hab, hb, hqa, hqe⟩ := pair_of (sub_lt2 (n := 10) p1 h.2.1) h0 p3
      have hn := h.1
      have hlt : CV F C n k (nd s q) < FARc := by
        have : 400000 * k ≤ 400000 * 10 := Nat.mul_le_mul_left _ (by omega)
        have : FARc = 1125899906842624 := rfl
        omega
      refine fA_hit (P := fun v => v ≤ _) (a := a) (b := b) (fun _ _ z => Nat.le_trans gS_le z) (nd_sub h2 hqa) hab hb (fun v => ?_) 10 (Nat.le_refl _) (by omega)
      rw [← hqe]
      show gS _ _ _ s q v ≤ _
      unfold gS
      rw [if_pos ⟨h2, hlt, p2⟩]
      split <;> omega
theorem CV_at (h : WOk P F W C wa wb n A0 α β) : ∀ k s, k ≤ n → nd s A0 = 0 → CV F C n k s < FARc → ∃ A B, Se P wa wb n k s A B ∧ CV F C n k s = β * A + B
  | 0, s, _, _, hf => by
    unfold CV at hf ⊢
    by_cases h0 : s = 0
    · rw [if_pos h0]
      exact ⟨0, 0, ⟨h0, rfl, rfl⟩, by simp⟩
    · rw [if_neg h0] at hf
      exact absurd hf (Nat.lt_irrefl _)
  | k + 1, s, hk, hs, hf => by
    rw [CV] at hf ⊢
    refine fA_inv (P := fun v => v < FARc → ∃ A B, Se P wa wb n (k + 1) s A B ∧ v = β * A + B) (fun a b v _ _ _ hv => ?_) ?_ 10 (Nat.le_refl _) hf
    · intro hlt
      unfold gS at hlt ⊢
      split at hlt
      · rename_i hc
        rw [if_pos hc]
        split at hlt
        · rename_i hc2
          rw [if_pos hc2]
          obtain ⟨A, B, g1, g2⟩ := CV_at h k (nd s (2 ^ a ||| 2 ^ b)) (by omega) (nd_tr (nd_l _ _) hs) hc.2.1
          have hp := h.2.2.2.2.2.1 (n - (k + 1)) _ (by omega) (nd_tr hc.1 hs) hc.2.2
          obtain ⟨p1, p2, p3, p4, p5, p6, p7⟩ := h.2.2.2.2.1 (n - (k + 1)) _ (by omega) hp
          refine ⟨A + wa (n - (k + 1)) (2 ^ a ||| 2 ^ b), B + wb (n - (k + 1)) (2 ^ a ||| 2 ^ b), ⟨_, A, B, hp, hc.1, g1, rfl, rfl⟩, ?_⟩
          rw [g2, p6, Nat.mul_add]
          omega
        · rename_i hc2
          rw [if_neg hc2]
          exact hv hlt
      · rename_i hc
        rw [if_neg hc]
        exact hv hlt
    · intro hlt
      obtain ⟨A, B, g1, g2⟩ := CV_at h k s (by omega) hs hlt
      obtain ⟨z1, z2, z3⟩ := h.2.2.2.2.2.2.1 (n - (k + 1)) (by omega)
      exact ⟨A, B, ⟨0, A, B, z1, (nd_0 s).2, by rw [(nd_0 s).1]; exact g1, by rw [z2]; rfl, by rw [z3]; rfl⟩, g2⟩
theorem lex_le {α β A B A' B' : Nat} (hαβ : β ≤ α) (hB : B < β) (hB' : B' < β) (h1 : α * A + B ≤ α * A' + B') (h2 : β * A' + B' ≤ β * A + B) : A = A' ∧ B = B' := by
  have e1 : A ≤ A' := Nat.not_lt.mp (fun q => by
    have := Nat.mul_le_mul_left α (show A' + 1 ≤ A from q)
    rw [Nat.mul_succ] at this
    omega)
  have e2 : A' ≤ A := Nat.not_lt.mp (fun q => by
    have := Nat.mul_le_mul_left β (show A + 1 ≤ A' from q)
    rw [Nat.mul_succ] at this
    omega)
  have e : A = A' := by omega
  subst e
  exact ⟨rfl, by omega⟩
/-- both are found, or none -/
theorem CV_LD (h : WOk P F W C wa wb n A0 α β) {k s : Nat} (hk : k ≤ n) (hs : nd s A0 = 0) : (LD P W n k s = FARn ∧ CV F C n k s = FARc) ∨ (¬ LD P W n k s = FARn ∧ CV F C n k s < FARc ∧ ∃ A B, Se P wa wb n k s A B ∧ LD P W n k s = α * A + B ∧ CV F C n k s = β * A + B) := by
  have hs10 : s < 1024 := sub_lt2 (n := 10) hs h.2.1
  have hn := h.1
  have hF : FARc = 1125899906842624 := rfl
  by_cases hl : LD P W n k s = FARn
  · left
    refine ⟨hl, Nat.le_antisymm (CV_cap F C n k s) (Nat.not_lt.mp fun q => ?_)⟩
    obtain ⟨A, B, g1, -⟩ := CV_at h k s hk hs q
    exact (LD_se h k s A B hk g1).2 hl
  · right
    obtain ⟨A, B, g1, g2⟩ := LD_at h k s hk hl
    obtain ⟨c1, c2⟩ := CV_se h k s A B hk hs g1
    have : 400000 * k ≤ 400000 * 10 := Nat.mul_le_mul_left _ (by omega)
    have hlt : CV F C n k s < FARc := by omega
    obtain ⟨A', B', g3, g4⟩ := CV_at h k s hk hs hlt
    have d1 := (LD_se h k s A' B' hk g3).1
    obtain ⟨e1, e2⟩ := lex_le (A := A) (A' := A') h.2.2.2.1 (h.2.2.2.2.2.2.2 k s A B hk hs10 g1) (h.2.2.2.2.2.2.2 k s A' B' hk hs10 g3) (by omega) (by omega)
    subst e1; subst e2
    exact ⟨hl, hlt, A, B, g1, g2, g4⟩
/-- the same sets are picked -/
theorem pk_same (h : WOk P F W C wa wb n A0 α β) {k s q : Nat} (hk : k + 1 ≤ n) (hs : nd s A0 = 0) (hfin : ¬ LD P W n (k + 1) s = FARn) (hq : nd q s = 0) : (P (n - (k + 1)) q = true ∧ ¬ LD P W n k (nd s q) = FARn ∧ LD P W n k (nd s q) + W (n - (k + 1)) q = LD P W n (k + 1) s) ↔ (CV F C n k (nd s q) < FARc ∧ F (n - (k + 1)) q = true ∧ C (n - (k + 1)) q + CV F C n k (nd s q) = CV F C n (k + 1) s) := by
  have hs10 : s < 1024 := sub_lt2 (n := 10) hs h.2.1
  have hsq : nd (nd s q) A0 = 0 := nd_tr (nd_l _ _) hs
  obtain ⟨-, -, A, B, g1, g2, g3⟩ := (CV_LD h hk hs).resolve_left (fun z => hfin z.1)
  have hB := h.2.2.2.2.2.2.2 (k + 1) s A B hk hs10 g1
  have key : ¬ LD P W n k (nd s q) = FARn → CV F C n k (nd s q) < FARc → P (n - (k + 1)) q = true → (LD P W n k (nd s q) + W (n - (k + 1)) q = LD P W n (k + 1) s ↔ C (n - (k + 1)) q + CV F C n k (nd s q) = CV F C n (k + 1) s) := by
    intro z1 z2 z3
    obtain ⟨-, -, A1, B1, f1, f2, f3⟩ := (CV_LD h (show k ≤ n by omega) hsq).resolve_left (fun z => z1 z.1)
    obtain ⟨p1, p2, p3, p4, p5, p6, p7⟩ := h.2.2.2.2.1 (n - (k + 1)) q (by omega) z3
    have hSe : Se P wa wb n (k + 1) s (A1 + wa (n - (k + 1)) q) (B1 + wb (n - (k + 1)) q) := ⟨q, A1, B1, z3, hq, f1, rfl, rfl⟩
    have hB2 := h.2.2.2.2.2.2.2 (k + 1) s _ _ hk hs10 hSe
    have l1 := (LD_se h (k + 1) s _ _ hk hSe).1
    have l2 := (CV_se h (k + 1) s _ _ hk hs hSe).1
    rw [g2, Nat.mul_add] at l1
    rw [g3, Nat.mul_add] at l2
    rw [f2, f3, g2, g3, p4, p6]
    constructor
    · intro e
      obtain ⟨e1, e2⟩ := lex_le h.2.2.2.1 hB2 hB (show α * (A1 + wa (n - (k + 1)) q) + (B1 + wb (n - (k + 1)) q) ≤ α * A + B by rw [Nat.mul_add]; omega) (by rw [Nat.mul_add]; omega)
      rw [← e1, ← e2, Nat.mul_add]
      omega
    · intro e
      obtain ⟨e1, e2⟩ := lex_le h.2.2.2.1 hB hB2 (show α * A + B ≤ α * (A1 + wa (n - (k + 1)) q) + (B1 + wb (n - (k + 1)) q) by rw [Nat.mul_add]; omega) (by rw [Nat.mul_add]; omega)
      rw [e1, e2, Nat.mul_add]
      omega
  constructor
  · rintro ⟨z3, z1, z4⟩
    obtain ⟨-, z2, -⟩ := (CV_LD h (show k ≤ n by omega) hsq).resolve_left (fun z => z1 z.1)
    exact ⟨z2, (h.2.2.2.2.1 (n - (k + 1)) q (by omega) z3).2.1, (key z1 z2 z3).mp z4⟩
  · rintro ⟨z2, zf, z4⟩
    have z3 := h.2.2.2.2.2.1 (n - (k + 1)) q (by omega) (nd_tr hq hs) zf
    have z1 : ¬ LD P W n k (nd s q) = FARn := fun e => by
      rcases CV_LD h (show k ≤ n by omega) hsq with z | z
      · omega
      · exact z.1 e
    exact ⟨z3, z1, (key z1 z2 z3).mpr z4⟩
end

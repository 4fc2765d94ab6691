/-! the component: losses -/
def mxR (f : Nat → Nat) (lo : Nat) : Nat → Nat
  | 0 => 0
  | j + 1 => max (mxR f lo j) (f (lo + j))
theorem wY_mx (f : Nat → Nat) (u dw : Nat) : ∀ i, wY f u dw i = mxR f (u - dw) (min (11 + dw) (u + i) - max dw u)
  | 0 => by
    rw [show min (11 + dw) (u + 0) - max dw u = 0 by omega]
    rfl
  | i + 1 => by
    rw [wY, wY_mx f u dw i]
    by_cases h : dw ≤ u + i ∧ u + i ≤ 10 + dw
    · rw [if_pos h, show min (11 + dw) (u + (i + 1)) - max dw u = (min (11 + dw) (u + i) - max dw u) + 1 by omega, mxR, show u - dw + (min (11 + dw) (u + i) - max dw u) = u + i - dw by omega]
    · rw [if_neg h, show min (11 + dw) (u + (i + 1)) - max dw u = min (11 + dw) (u + i) - max dw u by omega]
theorem mxR_le {f : Nat → Nat} {lo b m : Nat} (hf : ∀ x, x ≤ m → f x ≤ b) : ∀ j, lo + j ≤ m + 1 → mxR f lo j ≤ b
  | 0, _ => Nat.zero_le _
  | j + 1, h => Nat.max_le.mpr ⟨mxR_le hf j (by omega), hf _ (by omega)⟩
theorem nm0 : ∀ (u : Fin 11) (d : Fin 4), (if nI 0 < nI u.1 - nI d.1 then nI u.1 - nI d.1 else nI 0) = nI (u.1 - d.1) := by decide +kernel
theorem nmin {a b : Nat} (ha : a < 2 ^ 31) (hb : b < 2 ^ 31) : (if nI b < nI a then nI b else nI a) = nI (min a b) := by
  have e := nI_ltE hb ha
  by_cases h : b < a
  · rw [if_pos (by rw [e]; exact h), Nat.min_eq_right (by omega)]
  · rw [if_neg (by rw [e]; exact h), Nat.min_eq_left (by omega)]
theorem nmax {a b : Nat} (ha : a < 2 ^ 31) (hb : b < 2 ^ 31) : (if nI a < nI b then nI b else nI a) = nI (max a b) := by
  have e := nI_ltE ha hb
  by_cases h : a < b
  · rw [if_pos (by rw [e]; exact h), Nat.max_eq_right (by omega)]
  · rw [if_neg (by rw [e]; exact h), Nat.max_eq_left (by omega)]
section Co37
variable {w : Wd} {l : Launch} {K : Ly} {S : Sh} {I T : Mi} {J : Ml}
theorem kX1_worstOf (hC : coS S) {e h u up dw b : Nat} {F : Nat → Nat → Nat} (he : e < 30) (hh : h ≤ 10) (hu : u ≤ 10) (hup : up ≤ 3) (hdw : dw ≤ 3) (hb : b < 2 ^ 31) (hF : ∀ k, k ≤ 10 → I (87 + 12 * e + h) k = nI (F h k) ∧ F h k ≤ b) : Ct w l yX1_worstOf cX1_worstOf 8 (some .int) 2 0 0 [.ref 0, .int (nI (e + 1)), .int (nI h), .int (nI u), .int (nI up), .int (nI dw)] S I J (Qe (some (.int (nI (wY (F h) u dw (up + dw + 1))))) S I J) := by
  have hg := hC.2.2.2.2.2.1 e (by omega)
  have hg2 := hC.2.2.2.2.2.2.1 e h (by omega) (by omega)
  refine Ct.of [some _, some _, some _, some _, some _, some _, none, none] rfl (Nat.le_of_ble_eq_true rfl) (by decide) ?_
  intro κ hκ C
  subst hκ
  have hl : ∀ (i j : Nat), j + i = min 10 (u + up) + 1 - (u - dw) → XX w κ (Zr w κ (Qe (some (.int (nI (wY (F h) u dw (up + dw + 1))))) S I J)) 0 0 13 [some (.ref 0), some (.int (nI (e + 1))), some (.int (nI h)), some (.int (nI u)), some (.int (nI up)), some (.int (nI dw)), some (.int (nI (mxR (F h) (u - dw) j))), some (.int (nI (u - dw + j)))] [] S I J := by
    intro i
    induction i with
    | zero =>
      intro j ej
      refine x_iload C dX1_worstOf_13 15 rfl rfl ?_
      refine x_bip (j := 10) C dX1_worstOf_15 17 rfl (by decide) ?_
      refine x_iload_n C dX1_worstOf_17 18 rfl rfl ?_
      refine x_iload C dX1_worstOf_18 20 rfl rfl ?_
      refine x_iadd C dX1_worstOf_20 21 rfl (nI_add _ _) ?_
      refine x_mmin2 C q1069 q687 q688 dX1_worstOf_21 24 rfl (Nat.le_of_ble_eq_true rfl) (by decide) (Nat.zero_le _) (Nat.zero_le _) ?_
      rw [nmin (by decide) (by omega)]
      refine x_icmpgtN C dX1_worstOf_24 27 53 rfl (by decide) (by omega) (by omega) (fun _ => ?_) (fun h24 => absurd h24 (by omega))
      refine x_iload C dX1_worstOf_53 55 rfl rfl ?_
      exact x_iret C dX1_worstOf_55 (Nat.le_refl _) (Nat.le_refl _) (Qe_of (by rw [wY_mx, show min (11 + dw) (u + (up + dw + 1)) - max dw u = j by omega]))
    | succ i ih =>
      intro j ej
      have hk := hF (u - dw + j) (by omega)
      have hm := mxR_le (f := F h) (lo := u - dw) (m := 10) (fun x hx => (hF x hx).2) j (by omega)
      refine x_iload C dX1_worstOf_13 15 rfl rfl ?_
      refine x_bip (j := 10) C dX1_worstOf_15 17 rfl (by decide) ?_
      refine x_iload_n C dX1_worstOf_17 18 rfl rfl ?_
      refine x_iload C dX1_worstOf_18 20 rfl rfl ?_
      refine x_iadd C dX1_worstOf_20 21 rfl (nI_add _ _) ?_
      refine x_mmin2 C q1069 q687 q688 dX1_worstOf_21 24 rfl (Nat.le_of_ble_eq_true rfl) (by decide) (Nat.zero_le _) (Nat.zero_le _) ?_
      rw [nmin (by decide) (by omega)]
      refine x_icmpgtN C dX1_worstOf_24 27 53 rfl (by decide) (by omega) (by omega) (fun h24 => absurd h24 (by omega)) (fun _ => ?_)
      refine x_iload C dX1_worstOf_27 29 rfl rfl ?_
      refine x_aloadr_n C dX1_worstOf_29 30 rfl rfl ?_
      refine x_getr C fl_X1_75 (Or.inr ⟨_, rfl⟩) dX1_worstOf_30 33 rfl hC.1 (coR_losses hC) ?_
      refine x_iload_n C dX1_worstOf_33 34 rfl rfl ?_
      refine x_ic (j := 1) C dX1_worstOf_34 35 rfl ?_
      refine x_isub C dX1_worstOf_35 36 rfl (pk_sub (by omega)) ?_
      refine x_aaldr (t := 11) C dX1_worstOf_36 37 rfl (coA_losses hC) (by decide) (coN_losses hC) rfl (by omega) (by decide) hg.1 ?_
      refine x_iload_n C dX1_worstOf_37 38 rfl rfl ?_
      refine x_aaldr (t := 8) C dX1_worstOf_38 39 rfl hg.2.1 (by decide) hg.2.2 rfl (by omega) (by decide) hg2.1 ?_
      refine x_iload C dX1_worstOf_39 41 rfl rfl ?_
      refine x_iald C dX1_worstOf_41 42 rfl hg2.2.1 hg2.2.2 rfl (by omega) (by decide) hk.1 ?_
      refine x_mmax2 C q1070 q684 q685 dX1_worstOf_42 45 rfl (Nat.le_of_ble_eq_true rfl) (by decide) (Nat.zero_le _) (Nat.zero_le _) ?_
      rw [nmax (by omega) (by omega)]
      refine x_istore C dX1_worstOf_45 47 rfl [_, _, _, _, _, _, _, _] (by decide) rfl rfl ?_
      refine x_iinc C dX1_worstOf_47 50 rfl [_, _, _, _, _, _, _, _] (nI_inc _) (by decide) rfl rfl rfl ?_
      refine x_goto C dX1_worstOf_50 13 (by decide) ?_
      exact ih (j + 1) (by omega)
  refine x_ic (j := 0) C dX1_worstOf_0 1 rfl ?_
  refine x_istore C dX1_worstOf_1 3 rfl [_, _, _, _, _, _, _, _] (by decide) rfl rfl ?_
  refine x_ic (j := 0) C dX1_worstOf_3 4 rfl ?_
  refine x_iload_n C dX1_worstOf_4 5 rfl rfl ?_
  refine x_iload C dX1_worstOf_5 7 rfl rfl ?_
  refine x_isub C dX1_worstOf_7 8 rfl rfl ?_
  refine x_mmax2 C q1070 q684 q685 dX1_worstOf_8 11 rfl (Nat.le_of_ble_eq_true rfl) (by decide) (Nat.zero_le _) (Nat.zero_le _) ?_
  rw [nm0 ⟨u, by omega⟩ ⟨dw, by omega⟩]
  refine x_istore C dX1_worstOf_11 13 rfl [_, _, _, _, _, _, _, _] (by decide) rfl rfl ?_
  exact hl _ 0 (Nat.zero_add _)
end Co37

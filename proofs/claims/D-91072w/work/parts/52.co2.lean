/-! the component: towns told; who is there -/
/-- nobody is listed but people -/
def LsOk (T : Mi) : Prop := ∀ t p, t < tn T → p < 10 → (T 490 (10 * t + p) = -1 ∨ ∃ r, r < rn T t ∧ T 490 (10 * t + p) = nI r) ∧ (pn T ≤ p → T 490 (10 * t + p) = -1)
theorem msk_hi {P : Nat → Bool} {m n : Nat} (h : m ≤ n) (hz : ∀ i, m ≤ i → i < n → P i = false) : msk P n = msk P m := by
  induction n with
  | zero => rw [Nat.le_zero.mp h]
  | succ n ih =>
    rcases Nat.lt_or_ge n m with q | q
    · rw [show m = n + 1 by omega]
    · rw [msk_f (hz n q (by omega))]
      exact ih q (fun i h1 h2 => hz i h1 (by omega))
theorem si_10 {T : Mi} (hL : LsOk T) (h10 : pn T ≤ 10) {t r : Nat} (ht : t < tn T) (hr : r < 2 ^ 31) : msk (fun p => decide (T 490 (10 * t + p) = nI r)) 10 = si T (pn T) t (nI r) := by
  unfold si
  exact msk_hi h10 (fun i h1 h2 => decide_eq_false (by rw [(hL t i ht h2).2 h1]; exact fun q => nI_m1 hr q.symm))
theorem peop_10 {T : Mi} (hL : LsOk T) (h10 : pn T ≤ 10) {t : Nat} (ht : t < tn T) : cnt (fun p => decide (¬ T 490 (10 * t + p) = -1)) 10 = peopN T t (pn T) := by
  unfold peopN
  exact cnt_hi h10 (fun i h1 h2 => decide_eq_false (by rw [(hL t i ht h2).2 h1]; simp))
section Co2
variable {w : Wd} {l : Launch} {K : Ly} {S : Sh} {I T : Mi} {J : Ml}
theorem kX5_inside (hR : CoR K S I T) (hI : Tok T) (hL : LsOk T) {t r : Nat} (ht : t < tn T) (hr : r < 2 ^ 31) : Ct w l yX5_inside cX5_inside 4 (some .int) 1 0 0 [.ref (ta K t), .int (nI r)] S I J (Qe (some (.int (nI (si T (pn T) t (nI r))))) S I J) := by
  have hp10 := tk_p2 hI
  rw [← si_10 hL hp10 ht hr]
  refine Ct.of [some _, some _, none, none] rfl (Nat.le_of_ble_eq_true rfl) (by decide) ?_
  intro κ hκ C
  subst hκ
  refine x_ic (j := 0) C dX5_inside_0 1 rfl ?_
  refine x_istore_n C dX5_inside_1 2 rfl [_, _, _, _] (by decide) rfl rfl ?_
  refine x_ic (j := 0) C dX5_inside_2 3 rfl ?_
  refine x_istore_n C dX5_inside_3 4 rfl [_, _, _, _] (by decide) rfl rfl ?_
  have hloop4 : ∀ (j p : Nat) (a : Nat), p + j = 10 → a = msk (fun p => decide (T 490 (10 * t + p) = nI r)) p → XX w κ (Zr w κ (Qe (some (.int (nI (msk (fun p => decide (T 490 (10 * t + p) = nI r)) 10)))) S I J)) 0 0 4 [some (.ref (ta K t)), some (.int (nI r)), some (.int (nI a)), some (.int (nI p))] [] S I J := by
    intro j
    induction j with
    | zero =>
      intro p a e4 h_a
      have e4 : 10 = p := Eq.symm e4
      subst e4
      subst h_a
      refine x_iload_n C dX5_inside_4 5 rfl rfl ?_
      refine x_bip (j := 10) C dX5_inside_5 7 rfl (by decide) ?_
      refine x_icmpgeN C dX5_inside_7 10 36 rfl (by decide) (by omega) (by omega) (fun _ => ?_) (fun h7 => absurd h7 (by omega))
      refine x_iload_n C dX5_inside_36 37 rfl rfl ?_
      exact x_iret C dX5_inside_37 (Nat.le_refl _) (Nat.le_refl _) ⟨rfl, rfl, rfl, rfl⟩
    | succ j ih4 =>
      intro p a e4 h_a
      refine x_iload_n C dX5_inside_4 5 rfl rfl ?_
      refine x_bip (j := 10) C dX5_inside_5 7 rfl (by decide) ?_
      refine x_icmpgeN C dX5_inside_7 10 36 rfl (by decide) (by omega) (by omega) (fun h7 => absurd h7 (by omega)) (fun _ => ?_)
      refine x_iload_n C dX5_inside_10 11 rfl rfl ?_
      refine x_aloadr_n C dX5_inside_11 12 rfl rfl ?_
      refine x_getr C fl_X5_17 (Or.inr ⟨_, rfl⟩) dX5_inside_12 15 rfl (ct_T hR ht) (ct_list hR ht) ?_
      refine x_iload_n C dX5_inside_15 16 rfl rfl ?_
      refine x_iald C dX5_inside_16 17 rfl (ct_listA hR ht) (ct_listN hR ht) rfl (by omega) (by decide) (ct_listI hR ht _ (by omega)) ?_
      refine x_iload_n C dX5_inside_17 18 rfl rfl ?_
      refine x_icmpne C dX5_inside_18 21 27 rfl (by decide) (fun h18 => ?_) (fun h18 => ?_)
      · refine x_ic (j := 0) C dX5_inside_27 28 rfl ?_
        refine x_ior C dX5_inside_28 29 rfl (nI_or _ _) ?_
        refine x_istore_n C dX5_inside_29 30 rfl [_, _, _, _] (by decide) rfl rfl ?_
        refine x_iinc C dX5_inside_30 33 rfl [_, _, _, _] (nI_inc _) (by decide) rfl rfl rfl ?_
        refine x_goto C dX5_inside_33 4 (by decide) ?_
        exact (ih4 (p + 1) _ (by omega) (by first | (rw [msk_f (by simp [h18]), h_a, Nat.or_zero]) | (rw [msk_t (by simp [h18]), h_a])))
      · refine x_ic (j := 1) C dX5_inside_21 22 rfl ?_
        refine x_iload_n C dX5_inside_22 23 rfl rfl ?_
        refine x_ishl C dX5_inside_23 24 rfl (nI_shl1' _ (by omega)) ?_
        refine x_goto C dX5_inside_24 28 (by decide) ?_
        refine x_ior C dX5_inside_28 29 rfl (nI_or _ _) ?_
        refine x_istore_n C dX5_inside_29 30 rfl [_, _, _, _] (by decide) rfl rfl ?_
        refine x_iinc C dX5_inside_30 33 rfl [_, _, _, _] (nI_inc _) (by decide) rfl rfl rfl ?_
        refine x_goto C dX5_inside_33 4 (by decide) ?_
        exact (ih4 (p + 1) _ (by omega) (by first | (rw [msk_f (by simp [h18]), h_a, Nat.or_zero]) | (rw [msk_t (by simp [h18]), h_a])))
  exact hloop4 10 0 _ (Nat.zero_add _) rfl
theorem kX5_held (hR : CoR K S I T) (hI : Tok T) {t : Nat} (ht : t < tn T) : Ct w l yX5_held cX5_held 3 (some .int) 1 0 0 [.ref (ta K t)] S I J (Qe (some (.int (nI (heldN T t (rn T t))))) S I J) := by
  have ht6 := tk_t2 hI
  have hr10 := tk_r2 hI (show t < 6 by omega)
  refine Ct.of [some _, none, none] rfl (Nat.le_of_ble_eq_true rfl) (by decide) ?_
  intro κ hκ C
  subst hκ
  refine x_ic (j := 0) C dX5_held_0 1 rfl ?_
  refine x_istore_n C dX5_held_1 2 rfl [_, _, _] (by decide) rfl rfl ?_
  refine x_ic (j := 0) C dX5_held_2 3 rfl ?_
  refine x_istore_n C dX5_held_3 4 rfl [_, _, _] (by decide) rfl rfl ?_
  have hloop4 : ∀ (j r : Nat) (a : Nat), r + j = (rn T t) → a = heldN T t r → XX w κ (Zr w κ (Qe (some (.int (nI (heldN T t (rn T t))))) S I J)) 0 0 4 [some (.ref (ta K t)), some (.int (nI a)), some (.int (nI r))] [] S I J := by
    intro j
    induction j with
    | zero =>
      intro r a e4 h_a
      have e4 : (rn T t) = r := Eq.symm e4
      subst e4
      subst h_a
      refine x_iload_n C dX5_held_4 5 rfl rfl ?_
      refine x_aloadr_n C dX5_held_5 6 rfl rfl ?_
      refine x_geti C fl_X5_37 (Or.inl rfl) dX5_held_6 9 rfl (ct_T hR ht) ((ct_roomMany hR ht).trans (tk_r (I := T) hI (by omega))) ?_
      refine x_icmpgeN C dX5_held_9 12 38 rfl (by decide) (by omega) (by omega) (fun _ => ?_) (fun h9 => absurd h9 (by omega))
      refine x_iload_n C dX5_held_38 39 rfl rfl ?_
      exact x_iret C dX5_held_39 (Nat.le_refl _) (Nat.le_refl _) ⟨rfl, rfl, rfl, rfl⟩
    | succ j ih4 =>
      intro r a e4 h_a
      have hrr : r < rn T t := by omega
      refine x_iload_n C dX5_held_4 5 rfl rfl ?_
      refine x_aloadr_n C dX5_held_5 6 rfl rfl ?_
      refine x_geti C fl_X5_37 (Or.inl rfl) dX5_held_6 9 rfl (ct_T hR ht) ((ct_roomMany hR ht).trans (tk_r (I := T) hI (by omega))) ?_
      refine x_icmpgeN C dX5_held_9 12 38 rfl (by decide) (by omega) (by omega) (fun h9 => absurd h9 (by omega)) (fun _ => ?_)
      refine x_iload_n C dX5_held_12 13 rfl rfl ?_
      refine x_aloadr_n C dX5_held_13 14 rfl rfl ?_
      refine x_getr C fl_X5_11 (Or.inr ⟨_, rfl⟩) dX5_held_14 17 rfl (ct_T hR ht) (ct_rooms hR ht) ?_
      refine x_iload_n C dX5_held_17 18 rfl rfl ?_
      refine x_aaldr (t := 6) C dX5_held_18 19 rfl (ct_roomsA hR ht) (by decide) (ct_roomsN hR ht) rfl (by omega) (by decide) (cm_elt hR ht hrr) ?_
      refine x_geti C fl_X5_40 (Or.inr (Or.inl rfl)) dX5_held_19 22 rfl (cm_T hR ht hrr) (cm_held hR ht hrr) ?_
      refine x_ifeq C dX5_held_22 25 29 rfl (by decide) (fun h22 => ?_) (fun h22 => ?_)
      · refine x_ic (j := 0) C dX5_held_29 30 rfl ?_
        refine x_iadd C dX5_held_30 31 rfl (nI_add _ _) ?_
        refine x_istore_n C dX5_held_31 32 rfl [_, _, _] (by decide) rfl rfl ?_
        refine x_iinc C dX5_held_32 35 rfl [_, _, _] (nI_inc _) (by decide) rfl rfl rfl ?_
        refine x_goto C dX5_held_35 4 (by decide) ?_
        exact (ih4 (r + 1) _ (by omega) (by unfold heldN; first | (rw [cnt_f (by simp [h22]), h_a]; rfl) | (rw [cnt_t (by simp [h22]), h_a]; rfl)))
      · refine x_ic (j := 1) C dX5_held_25 26 rfl ?_
        refine x_goto C dX5_held_26 30 (by decide) ?_
        refine x_iadd C dX5_held_30 31 rfl (nI_add _ _) ?_
        refine x_istore_n C dX5_held_31 32 rfl [_, _, _] (by decide) rfl rfl ?_
        refine x_iinc C dX5_held_32 35 rfl [_, _, _] (nI_inc _) (by decide) rfl rfl rfl ?_
        refine x_goto C dX5_held_35 4 (by decide) ?_
        exact (ih4 (r + 1) _ (by omega) (by unfold heldN; first | (rw [cnt_f (by simp [h22]), h_a]; rfl) | (rw [cnt_t (by simp [h22]), h_a]; rfl)))
  exact hloop4 (rn T t) 0 _ (Nat.zero_add _) rfl
theorem kX5_used (hR : CoR K S I T) (hI : Tok T) (hL : LsOk T) {t : Nat} (ht : t < tn T) : Ct w l yX5_used cX5_used 3 (some .int) 2 0 0 [.ref (ta K t)] S I J (Qe (some (.int (nI (usedN T (pn T) t (rn T t))))) S I J) := by
  have ht6 := tk_t2 hI
  have hr10 := tk_r2 hI (show t < 6 by omega)
  have hp10 := tk_p2 hI
  refine Ct.of [some _, none, none] rfl (Nat.le_of_ble_eq_true rfl) (by decide) ?_
  intro κ hκ C
  subst hκ
  refine x_ic (j := 0) C dX5_used_0 1 rfl ?_
  refine x_istore_n C dX5_used_1 2 rfl [_, _, _] (by decide) rfl rfl ?_
  refine x_ic (j := 0) C dX5_used_2 3 rfl ?_
  refine x_istore_n C dX5_used_3 4 rfl [_, _, _] (by decide) rfl rfl ?_
  have hloop4 : ∀ (j r : Nat) (a : Nat), r + j = (rn T t) → a = usedN T (pn T) t r → XX w κ (Zr w κ (Qe (some (.int (nI (usedN T (pn T) t (rn T t))))) S I J)) 0 0 4 [some (.ref (ta K t)), some (.int (nI a)), some (.int (nI r))] [] S I J := by
    intro j
    induction j with
    | zero =>
      intro r a e4 h_a
      have e4 : (rn T t) = r := Eq.symm e4
      subst e4
      subst h_a
      refine x_iload_n C dX5_used_4 5 rfl rfl ?_
      refine x_aloadr_n C dX5_used_5 6 rfl rfl ?_
      refine x_geti C fl_X5_37 (Or.inl rfl) dX5_used_6 9 rfl (ct_T hR ht) ((ct_roomMany hR ht).trans (tk_r (I := T) hI (by omega))) ?_
      refine x_icmpgeN C dX5_used_9 12 34 rfl (by decide) (by omega) (by omega) (fun _ => ?_) (fun h9 => absurd h9 (by omega))
      refine x_iload_n C dX5_used_34 35 rfl rfl ?_
      exact x_iret C dX5_used_35 (Nat.le_refl _) (Nat.le_refl _) ⟨rfl, rfl, rfl, rfl⟩
    | succ j ih4 =>
      intro r a e4 h_a
      refine x_iload_n C dX5_used_4 5 rfl rfl ?_
      refine x_aloadr_n C dX5_used_5 6 rfl rfl ?_
      refine x_geti C fl_X5_37 (Or.inl rfl) dX5_used_6 9 rfl (ct_T hR ht) ((ct_roomMany hR ht).trans (tk_r (I := T) hI (by omega))) ?_
      refine x_icmpgeN C dX5_used_9 12 34 rfl (by decide) (by omega) (by omega) (fun h9 => absurd h9 (by omega)) (fun _ => ?_)
      refine x_iload_n C dX5_used_12 13 rfl rfl ?_
      refine x_aloadr_n C dX5_used_13 14 rfl rfl ?_
      refine x_iload_n C dX5_used_14 15 rfl rfl ?_
      refine x_callV C lk_X5_44 dX5_used_15 18 rfl [_] [_] rfl rfl (ct_T hR ht) (Nat.le_of_ble_eq_true rfl) (by decide) (Nat.le_refl _) (Nat.le_refl _) (kX5_inside hR hI hL ht (by omega)) ?_
      rintro _ _ _ _ ⟨rfl, rfl, rfl, rfl⟩
      refine x_ifeqN C dX5_used_18 21 25 rfl (by decide) (Nat.lt_of_lt_of_le (si_lt T t _ hp10) (by decide)) (fun h18 => ?_) (fun h18 => ?_)
      · refine x_ic (j := 0) C dX5_used_25 26 rfl ?_
        refine x_iadd C dX5_used_26 27 rfl (nI_add _ _) ?_
        refine x_istore_n C dX5_used_27 28 rfl [_, _, _] (by decide) rfl rfl ?_
        refine x_iinc C dX5_used_28 31 rfl [_, _, _] (nI_inc _) (by decide) rfl rfl rfl ?_
        refine x_goto C dX5_used_31 4 (by decide) ?_
        exact (ih4 (r + 1) _ (by omega) (by unfold usedN; first | (rw [cnt_f (by simp [h18]), h_a]; rfl) | (rw [cnt_t (by simp [h18]), h_a]; rfl)))
      · refine x_ic (j := 1) C dX5_used_21 22 rfl ?_
        refine x_goto C dX5_used_22 26 (by decide) ?_
        refine x_iadd C dX5_used_26 27 rfl (nI_add _ _) ?_
        refine x_istore_n C dX5_used_27 28 rfl [_, _, _] (by decide) rfl rfl ?_
        refine x_iinc C dX5_used_28 31 rfl [_, _, _] (nI_inc _) (by decide) rfl rfl rfl ?_
        refine x_goto C dX5_used_31 4 (by decide) ?_
        exact (ih4 (r + 1) _ (by omega) (by unfold usedN; first | (rw [cnt_f (by simp [h18]), h_a]; rfl) | (rw [cnt_t (by simp [h18]), h_a]; rfl)))
  exact hloop4 (rn T t) 0 _ (Nat.zero_add _) rfl
theorem kX5_people (hR : CoR K S I T) (hI : Tok T) (hL : LsOk T) {t : Nat} (ht : t < tn T) : Ct w l yX5_people cX5_people 3 (some .int) 1 0 0 [.ref (ta K t)] S I J (Qe (some (.int (nI (peopN T t (pn T))))) S I J) := by
  have hp10 := tk_p2 hI
  rw [← peop_10 hL hp10 ht]
  refine Ct.of [some _, none, none] rfl (Nat.le_of_ble_eq_true rfl) (by decide) ?_
  intro κ hκ C
  subst hκ
  refine x_ic (j := 0) C dX5_people_0 1 rfl ?_
  refine x_istore_n C dX5_people_1 2 rfl [_, _, _] (by decide) rfl rfl ?_
  refine x_ic (j := 0) C dX5_people_2 3 rfl ?_
  refine x_istore_n C dX5_people_3 4 rfl [_, _, _] (by decide) rfl rfl ?_
  have hloop4 : ∀ (j p : Nat) (a : Nat), p + j = 10 → a = cnt (fun p => decide (¬ T 490 (10 * t + p) = -1)) p → XX w κ (Zr w κ (Qe (some (.int (nI (cnt (fun p => decide (¬ T 490 (10 * t + p) = -1)) 10)))) S I J)) 0 0 4 [some (.ref (ta K t)), some (.int (nI a)), some (.int (nI p))] [] S I J := by
    intro j
    induction j with
    | zero =>
      intro p a e4 h_a
      have e4 : 10 = p := Eq.symm e4
      subst e4
      subst h_a
      refine x_iload_n C dX5_people_4 5 rfl rfl ?_
      refine x_bip (j := 10) C dX5_people_5 7 rfl (by decide) ?_
      refine x_icmpgeN C dX5_people_7 10 34 rfl (by decide) (by omega) (by omega) (fun _ => ?_) (fun h7 => absurd h7 (by omega))
      refine x_iload_n C dX5_people_34 35 rfl rfl ?_
      exact x_iret C dX5_people_35 (Nat.le_refl _) (Nat.le_refl _) ⟨rfl, rfl, rfl, rfl⟩
    | succ j ih4 =>
      intro p a e4 h_a
      refine x_iload_n C dX5_people_4 5 rfl rfl ?_
      refine x_bip (j := 10) C dX5_people_5 7 rfl (by decide) ?_
      refine x_icmpgeN C dX5_people_7 10 34 rfl (by decide) (by omega) (by omega) (fun h7 => absurd h7 (by omega)) (fun _ => ?_)
      refine x_iload_n C dX5_people_10 11 rfl rfl ?_
      refine x_aloadr_n C dX5_people_11 12 rfl rfl ?_
      refine x_getr C fl_X5_17 (Or.inr ⟨_, rfl⟩) dX5_people_12 15 rfl (ct_T hR ht) (ct_list hR ht) ?_
      refine x_iload_n C dX5_people_15 16 rfl rfl ?_
      refine x_iald C dX5_people_16 17 rfl (ct_listA hR ht) (ct_listN hR ht) rfl (by omega) (by decide) (ct_listI hR ht _ (by omega)) ?_
      refine x_icm C dX5_people_17 18 rfl ?_
      refine x_icmpeq C dX5_people_18 21 25 rfl (by decide) (fun h18 => ?_) (fun h18 => ?_)
      · refine x_ic (j := 0) C dX5_people_25 26 rfl ?_
        refine x_iadd C dX5_people_26 27 rfl (nI_add _ _) ?_
        refine x_istore_n C dX5_people_27 28 rfl [_, _, _] (by decide) rfl rfl ?_
        refine x_iinc C dX5_people_28 31 rfl [_, _, _] (nI_inc _) (by decide) rfl rfl rfl ?_
        refine x_goto C dX5_people_31 4 (by decide) ?_
        exact (ih4 (p + 1) _ (by omega) (by first | (rw [cnt_f (by simp [h18]), h_a]; rfl) | (rw [cnt_t (by simp [h18]), h_a])))
      · refine x_ic (j := 1) C dX5_people_21 22 rfl ?_
        refine x_goto C dX5_people_22 26 (by decide) ?_
        refine x_iadd C dX5_people_26 27 rfl (nI_add _ _) ?_
        refine x_istore_n C dX5_people_27 28 rfl [_, _, _] (by decide) rfl rfl ?_
        refine x_iinc C dX5_people_28 31 rfl [_, _, _] (nI_inc _) (by decide) rfl rfl rfl ?_
        refine x_goto C dX5_people_31 4 (by decide) ?_
        exact (ih4 (p + 1) _ (by omega) (by first | (rw [cnt_f (by simp [h18]), h_a]; rfl) | (rw [cnt_t (by simp [h18]), h_a])))
  exact hloop4 10 0 _ (Nat.zero_add _) rfl
theorem kX5_cost (hR : CoR K S I T) (hI : Tok T) (hL : LsOk T) {t : Nat} (ht : t < tn T) : Ct w l yX5_cost cX5_cost 3 (some .int) 2 0 0 [.ref (ta K t)] S I J (Qe (some (.int (costI T (pn T) t (rn T t)))) S I J) := by
  have ht6 := tk_t2 hI
  have hr10 := tk_r2 hI (show t < 6 by omega)
  have hp10 := tk_p2 hI
  refine Ct.of [some _, none, none] rfl (Nat.le_of_ble_eq_true rfl) (by decide) ?_
  intro κ hκ C
  subst hκ
  refine x_ic (j := 0) C dX5_cost_0 1 rfl ?_
  refine x_istore_n C dX5_cost_1 2 rfl [_, _, _] (by decide) rfl rfl ?_
  refine x_ic (j := 0) C dX5_cost_2 3 rfl ?_
  refine x_istore_n C dX5_cost_3 4 rfl [_, _, _] (by decide) rfl rfl ?_
  have hloop4 : ∀ (j r : Nat) (a : Int32), r + j = (rn T t) → a = costI T (pn T) t r → XX w κ (Zr w κ (Qe (some (.int (costI T (pn T) t (rn T t)))) S I J)) 0 0 4 [some (.ref (ta K t)), some (.int a), some (.int (nI r))] [] S I J := by
    intro j
    induction j with
    | zero =>
      intro r a e4 h_a
      have e4 : (rn T t) = r := Eq.symm e4
      subst e4
      subst h_a
      refine x_iload_n C dX5_cost_4 5 rfl rfl ?_
      refine x_aloadr_n C dX5_cost_5 6 rfl rfl ?_
      refine x_geti C fl_X5_37 (Or.inl rfl) dX5_cost_6 9 rfl (ct_T hR ht) ((ct_roomMany hR ht).trans (tk_r (I := T) hI (by omega))) ?_
      refine x_icmpgeN C dX5_cost_9 12 42 rfl (by decide) (by omega) (by omega) (fun _ => ?_) (fun h9 => absurd h9 (by omega))
      refine x_iload_n C dX5_cost_42 43 rfl rfl ?_
      exact x_iret C dX5_cost_43 (Nat.le_refl _) (Nat.le_refl _) ⟨rfl, rfl, rfl, rfl⟩
    | succ j ih4 =>
      intro r a e4 h_a
      have hrr : r < rn T t := by omega
      refine x_iload_n C dX5_cost_4 5 rfl rfl ?_
      refine x_aloadr_n C dX5_cost_5 6 rfl rfl ?_
      refine x_geti C fl_X5_37 (Or.inl rfl) dX5_cost_6 9 rfl (ct_T hR ht) ((ct_roomMany hR ht).trans (tk_r (I := T) hI (by omega))) ?_
      refine x_icmpgeN C dX5_cost_9 12 42 rfl (by decide) (by omega) (by omega) (fun h9 => absurd h9 (by omega)) (fun _ => ?_)
      refine x_iload_n C dX5_cost_12 13 rfl rfl ?_
      refine x_aloadr_n C dX5_cost_13 14 rfl rfl ?_
      refine x_iload_n C dX5_cost_14 15 rfl rfl ?_
      refine x_callV C lk_X5_44 dX5_cost_15 18 rfl [_] [_] rfl rfl (ct_T hR ht) (Nat.le_of_ble_eq_true rfl) (by decide) (Nat.le_refl _) (Nat.le_refl _) (kX5_inside hR hI hL ht (by omega)) ?_
      rintro _ _ _ _ ⟨rfl, rfl, rfl, rfl⟩
      refine x_ifeqN C dX5_cost_18 21 33 rfl (by decide) (Nat.lt_of_lt_of_le (si_lt T t _ hp10) (by decide)) (fun h18 => ?_) (fun h18 => ?_)
      · refine x_ic (j := 0) C dX5_cost_33 34 rfl ?_
        refine x_iadd C dX5_cost_34 35 rfl rfl ?_
        refine x_istore_n C dX5_cost_35 36 rfl [_, _, _] (by decide) rfl rfl ?_
        refine x_iinc C dX5_cost_36 39 rfl [_, _, _] (nI_inc _) (by decide) rfl rfl rfl ?_
        refine x_goto C dX5_cost_39 4 (by decide) ?_
        exact (ih4 (r + 1) _ (by omega) (by unfold costI; rw [smI, h_a]; first | (rw [if_pos h18]; rfl) | (rw [if_neg h18]; rfl)))
      · refine x_aloadr_n C dX5_cost_21 22 rfl rfl ?_
        refine x_getr C fl_X5_11 (Or.inr ⟨_, rfl⟩) dX5_cost_22 25 rfl (ct_T hR ht) (ct_rooms hR ht) ?_
        refine x_iload_n C dX5_cost_25 26 rfl rfl ?_
        refine x_aaldr (t := 6) C dX5_cost_26 27 rfl (ct_roomsA hR ht) (by decide) (ct_roomsN hR ht) rfl (by omega) (by decide) (cm_elt hR ht hrr) ?_
        refine x_geti C fl_X5_48 (Or.inl rfl) dX5_cost_27 30 rfl (cm_T hR ht hrr) (cm_price hR ht hrr) ?_
        refine x_goto C dX5_cost_30 34 (by decide) ?_
        refine x_iadd C dX5_cost_34 35 rfl rfl ?_
        refine x_istore_n C dX5_cost_35 36 rfl [_, _, _] (by decide) rfl rfl ?_
        refine x_iinc C dX5_cost_36 39 rfl [_, _, _] (nI_inc _) (by decide) rfl rfl rfl ?_
        refine x_goto C dX5_cost_39 4 (by decide) ?_
        exact (ih4 (r + 1) _ (by omega) (by unfold costI; rw [smI, h_a]; first | (rw [if_pos h18]; rfl) | (rw [if_neg h18]; rfl)))
  exact hloop4 (rn T t) 0 _ (Nat.zero_add _) rfl
theorem kX1_there (hR : CoR K S I T) (hI : Tok T) {t : Nat} (ht : t < 6) : Ct w l yX1_there cX1_there 4 (some .int) 3 0 0 [.ref 0, .int (nI t)] S I J (Qe (some (.int (nI (al T t)))) S I J) := by
  refine Ct.of [some _, some _, none, none] rfl (Nat.le_of_ble_eq_true rfl) (by decide) ?_
  intro κ hκ C
  subst hκ
  have hC := cr_S hR
  have hp10 := tk_p2 hI
  have ht6 := tk_t2 hI
  have hg30 := tk_g2 hI
  have hc30 := tk_c2 hI
  have hn500 := tk_n2 hI
  refine x_ic (j := 0) C dX1_there_0 1 rfl ?_
  refine x_istore_n C dX1_there_1 2 rfl [_, _, _, _] (by decide) rfl rfl ?_
  refine x_ic (j := 0) C dX1_there_2 3 rfl ?_
  refine x_istore_n C dX1_there_3 4 rfl [_, _, _, _] (by decide) rfl rfl ?_
  have hloop4 : ∀ (j p : Nat) (a : Nat), p + j = (pn T) → a = msk (fun p => thB T p (nI t)) p → XX w κ (Zr w κ (Qe (some (.int (nI (al T t)))) S I J)) 0 0 4 [some (.ref 0), some (.int (nI t)), some (.int (nI a)), some (.int (nI p))] [] S I J := by
    intro j
    induction j with
    | zero =>
      intro p a e4 h_a
      have e4 : (pn T) = p := Eq.symm e4
      subst e4
      subst h_a
      refine x_iload_n C dX1_there_4 5 rfl rfl ?_
      refine x_aloadr_n C dX1_there_5 6 rfl rfl ?_
      refine x_geti C fl_X1_105 (Or.inl rfl) dX1_there_6 9 rfl hC.1 ((cs_peopleMany hR).trans (tk_p (I := T) hI)) ?_
      refine x_icmpgeN C dX1_there_9 12 41 rfl (by decide) (by omega) (by omega) (fun _ => ?_) (fun h9 => absurd h9 (by omega))
      refine x_iload_n C dX1_there_41 42 rfl rfl ?_
      exact x_iret C dX1_there_42 (Nat.le_refl _) (Nat.le_refl _) ⟨rfl, rfl, rfl, rfl⟩
    | succ j ih4 =>
      intro p a e4 h_a
      have hpp : p < pn T := by omega
      refine x_iload_n C dX1_there_4 5 rfl rfl ?_
      refine x_aloadr_n C dX1_there_5 6 rfl rfl ?_
      refine x_geti C fl_X1_105 (Or.inl rfl) dX1_there_6 9 rfl hC.1 ((cs_peopleMany hR).trans (tk_p (I := T) hI)) ?_
      refine x_icmpgeN C dX1_there_9 12 41 rfl (by decide) (by omega) (by omega) (fun h9 => absurd h9 (by omega)) (fun _ => ?_)
      refine x_iload_n C dX1_there_12 13 rfl rfl ?_
      refine x_aloadr_n C dX1_there_13 14 rfl rfl ?_
      refine x_getr C fl_X1_11 (Or.inr ⟨_, rfl⟩) dX1_there_14 17 rfl hC.1 (coR_people hC) ?_
      refine x_iload_n C dX1_there_17 18 rfl rfl ?_
      refine x_aaldr (t := 4) C dX1_there_18 19 rfl (coA_people hC) (by decide) (coN_people hC) rfl (by omega) (by decide) (cp_elt hR hpp) ?_
      refine x_iload_n C dX1_there_19 20 rfl rfl ?_
      refine x_callV C lk_X1_219 dX1_there_20 23 rfl [_] [_] rfl rfl (cp_T hR hpp) (Nat.le_of_ble_eq_true rfl) (by decide) (Nat.le_refl _) (Nat.le_refl _) (kX4_isThere hR hpp) ?_
      rintro _ _ _ _ ⟨rfl, rfl, rfl, rfl⟩
      refine x_ifeqZ C dX1_there_23 26 32 rfl (by decide) (fun h23 => ?_) (fun h23 => ?_)
      · refine x_ic (j := 0) C dX1_there_32 33 rfl ?_
        refine x_ior C dX1_there_33 34 rfl (nI_or _ _) ?_
        refine x_istore_n C dX1_there_34 35 rfl [_, _, _, _] (by decide) rfl rfl ?_
        refine x_iinc C dX1_there_35 38 rfl [_, _, _, _] (nI_inc _) (by decide) rfl rfl rfl ?_
        refine x_goto C dX1_there_38 4 (by decide) ?_
        exact (ih4 (p + 1) _ (by omega) (by first | (rw [msk_f h23, h_a, Nat.or_zero]) | (rw [msk_t h23, h_a])))
      · refine x_ic (j := 1) C dX1_there_26 27 rfl ?_
        refine x_iload_n C dX1_there_27 28 rfl rfl ?_
        refine x_ishl C dX1_there_28 29 rfl (nI_shl1' _ (by omega)) ?_
        refine x_goto C dX1_there_29 33 (by decide) ?_
        refine x_ior C dX1_there_33 34 rfl (nI_or _ _) ?_
        refine x_istore_n C dX1_there_34 35 rfl [_, _, _, _] (by decide) rfl rfl ?_
        refine x_iinc C dX1_there_35 38 rfl [_, _, _, _] (nI_inc _) (by decide) rfl rfl rfl ?_
        refine x_goto C dX1_there_38 4 (by decide) ?_
        exact (ih4 (p + 1) _ (by omega) (by first | (rw [msk_f h23, h_a, Nat.or_zero]) | (rw [msk_t h23, h_a])))
  exact hloop4 (pn T) 0 _ (Nat.zero_add _) rfl
end Co2

/-! the component: small methods -/
theorem ac_in {w : Wd} {S : Sh} {I : Mi} {J : Ml} {a b : Option Nat} (ha : ∀ x, a = some x → ¬ S.1 x = 999) (hb : ∀ x, b = some x → ¬ S.1 x = 999) : ∀ hp, Rep w hp S I J → (a.map (rho w) = b.map (rho w) → a = b) := by
  intro hp hR e
  cases a with
  | none => cases b with
    | none => rfl
    | some y => cases e
  | some x => cases b with
    | none => cases e
    | some y =>
      have h1 := rho_of hR (a := x) rfl (ha x rfl)
      have h2 := rho_of hR (a := y) rfl (hb y rfl)
      have h3 : rho w x = rho w y := Option.some.inj e
      rw [h1, h2] at h3
      congr 1
      omega
/-- friends of the people are people -/
def FrOk (T : Mi) : Prop := ∀ p, p < pn T → T 481 p = -1 ∨ ∃ q, q < pn T ∧ T 481 p = nI q ∧ T 481 q = nI p
theorem fr_eq {K : Ly} {S : Sh} {I T : Mi} (hR : CoR K S I T) (hI : Tok T) (hF : FrOk T) {a b : Nat} (ha : a < pn T) (hb : b < pn T) : frR K T a = some (pa K b) ↔ T 481 a = nI b := by
  have h10 := tk_p2 hI
  unfold frR
  rcases hF a ha with h | ⟨q, hq, h, -⟩
  · rw [if_pos h]
    constructor
    · intro e; cases e
    · intro e; rw [h] at e; exact absurd e.symm (nI_m1 (by omega))
  · rw [if_neg (by rw [h]; exact nI_m1 (by omega)), h, nt_nI (by omega)]
    constructor
    · intro e
      rw [(cr_ly hR).1 q b hq hb (Option.some.inj e)]
    · intro e
      rw [(nI_eq (by omega) (by omega)).mp e]
theorem fr_none {K : Ly} {T : Mi} {a : Nat} : frR K T a = none ↔ T 481 a = -1 := by
  unfold frR
  by_cases h : T 481 a = -1
  · simp [h]
  · simp [h]
theorem fr_tag {K : Ly} {S : Sh} {I T : Mi} (hR : CoR K S I T) (hI : Tok T) (hF : FrOk T) {a : Nat} (ha : a < pn T) : ∀ x, frR K T a = some x → ¬ S.1 x = 999 := by
  intro x hx
  have h10 := tk_p2 hI
  unfold frR at hx
  rcases hF a ha with h | ⟨q, hq, h, -⟩
  · rw [if_pos h] at hx; cases hx
  · rw [if_neg (by rw [h]; exact nI_m1 (by omega)), h, nt_nI (by omega)] at hx
    cases hx
    rw [cp_T hR hq]
    decide
theorem bm_lt (T : Mi) (p : Nat) : bmN T p < 1024 := msk_lt _ 10
theorem bm_bit {T : Mi} {p q : Nat} (hq : q < 10) : (bmN T p).testBit q = !decide (T 482 (10 * p + q) = 0) := by
  unfold bmN
  rw [msk_bit]
  simp [hq]
section Co1
variable {w : Wd} {l : Launch} {K : Ly} {S : Sh} {I T : Mi} {J : Ml}
theorem kX1_in {v lo hi : Int32} : Ct w l yX1_in cX1_in 3 (some .boolean) 1 0 0 [.int v, .int lo, .int hi] S I J (Qe (some (.int (bz (inB v lo hi)))) S I J) := by
  refine Ct.of [some _, some _, some _] rfl (Nat.le_of_ble_eq_true rfl) (by decide) ?_
  intro κ hκ C
  subst hκ
  refine x_iload_n C dX1_in_0 1 rfl rfl ?_
  refine x_iload_n C dX1_in_1 2 rfl rfl ?_
  refine x_icmplt C dX1_in_2 5 14 rfl (by decide) (fun h2 => ?_) (fun h2 => ?_)
  ·
    refine x_ic (j := 0) C dX1_in_14 15 rfl ?_
    exact x_zret C dX1_in_15 (Nat.le_refl _) (Nat.le_refl _) rfl ⟨b0 (inB_lt h2), rfl, rfl, rfl⟩
  · refine x_iload_n C dX1_in_5 6 rfl rfl ?_
    refine x_iload_n C dX1_in_6 7 rfl rfl ?_
    refine x_icmpgt C dX1_in_7 10 14 rfl (by decide) (fun h7 => ?_) (fun h7 => ?_)
    ·
      refine x_ic (j := 0) C dX1_in_14 15 rfl ?_
      exact x_zret C dX1_in_15 (Nat.le_refl _) (Nat.le_refl _) rfl ⟨b0 (inB_gt h7), rfl, rfl, rfl⟩
    ·
      refine x_ic (j := 1) C dX1_in_10 11 rfl ?_
      refine x_goto C dX1_in_11 15 (by decide) ?_
      exact x_zret C dX1_in_15 (Nat.le_refl _) (Nat.le_refl _) rfl ⟨b1 (inB_t h2 h7), rfl, rfl, rfl⟩
theorem kX1_isPerson (hR : CoR K S I T) {p : Int32} : Ct w l yX1_isPerson cX1_isPerson 2 (some .boolean) 2 0 0 [.ref 0, .int p] S I J (Qe (some (.int (bz (peB T p)))) S I J) := by
  have hC := cr_S hR
  refine Ct.of [some _, some _] rfl (Nat.le_of_ble_eq_true rfl) (by decide) ?_
  intro κ hκ C
  subst hκ
  refine x_iload_n C dX1_isPerson_0 1 rfl rfl ?_
  refine x_ic (j := 0) C dX1_isPerson_1 2 rfl ?_
  refine x_aloadr_n C dX1_isPerson_2 3 rfl rfl ?_
  refine x_geti C fl_X1_105 (Or.inl rfl) dX1_isPerson_3 6 rfl hC.1 (cs_peopleMany hR) ?_
  refine x_ic (j := 1) C dX1_isPerson_6 7 rfl ?_
  refine x_isub C dX1_isPerson_7 8 rfl rfl ?_
  refine x_callS C lk_X1_108 dX1_isPerson_8 11 rfl [_, _, _] [] rfl rfl (Nat.le_of_ble_eq_true rfl) (by decide) (Nat.le_refl _) (Nat.le_refl _) kX1_in ?_
  rintro _ _ _ _ ⟨rfl, rfl, rfl, rfl⟩
  exact x_zret C dX1_isPerson_11 (Nat.le_refl _) (Nat.le_refl _) (bz_nar _) ⟨rfl, rfl, rfl, rfl⟩
theorem kX1_isTown (hR : CoR K S I T) {t : Int32} : Ct w l yX1_isTown cX1_isTown 2 (some .boolean) 2 0 0 [.ref 0, .int t] S I J (Qe (some (.int (bz (toB T t)))) S I J) := by
  have hC := cr_S hR
  refine Ct.of [some _, some _] rfl (Nat.le_of_ble_eq_true rfl) (by decide) ?_
  intro κ hκ C
  subst hκ
  refine x_iload_n C dX1_isTown_0 1 rfl rfl ?_
  refine x_ic (j := 0) C dX1_isTown_1 2 rfl ?_
  refine x_aloadr_n C dX1_isTown_2 3 rfl rfl ?_
  refine x_geti C fl_X1_112 (Or.inl rfl) dX1_isTown_3 6 rfl hC.1 (cs_townMany hR) ?_
  refine x_ic (j := 1) C dX1_isTown_6 7 rfl ?_
  refine x_isub C dX1_isTown_7 8 rfl rfl ?_
  refine x_callS C lk_X1_108 dX1_isTown_8 11 rfl [_, _, _] [] rfl rfl (Nat.le_of_ble_eq_true rfl) (by decide) (Nat.le_refl _) (Nat.le_refl _) kX1_in ?_
  rintro _ _ _ _ ⟨rfl, rfl, rfl, rfl⟩
  exact x_zret C dX1_isTown_11 (Nat.le_refl _) (Nat.le_refl _) (bz_nar _) ⟨rfl, rfl, rfl, rfl⟩
theorem kX1_isOver (hR : CoR K S I T) (hI : Tok T) {t : Nat} (ht : t < tn T) : Ct w l yX1_isOver cX1_isOver 2 (some .boolean) 1 0 0 [.ref 0, .int (nI t)] S I J (Qe (some (.int (bz (ovB T t)))) S I J) := by
  refine Ct.of [some _, some _] rfl (Nat.le_of_ble_eq_true rfl) (by decide) ?_
  intro κ hκ C
  subst hκ
  have hC := cr_S hR
  have hp10 := tk_p2 hI
  have ht6 := tk_t2 hI
  have hg30 := tk_g2 hI
  have hc30 := tk_c2 hI
  have hn500 := tk_n2 hI
  refine x_aloadr_n C dX1_isOver_0 1 rfl rfl ?_
  refine x_geti C fl_X1_115 (Or.inl rfl) dX1_isOver_1 4 rfl hC.1 (cs_closed hR) ?_
  refine x_aloadr_n C dX1_isOver_4 5 rfl rfl ?_
  refine x_getr C fl_X1_17 (Or.inr ⟨_, rfl⟩) dX1_isOver_5 8 rfl hC.1 (coR_towns hC) ?_
  refine x_iload_n C dX1_isOver_8 9 rfl rfl ?_
  refine x_aaldr (t := 5) C dX1_isOver_9 10 rfl (coA_towns hC) (by decide) (coN_towns hC) rfl (by omega) (by decide) (ct_elt hR ht) ?_
  refine x_geti C fl_X1_118 (Or.inl rfl) dX1_isOver_10 13 rfl (ct_T hR ht) (ct_first hR ht) ?_
  refine x_aloadr_n C dX1_isOver_13 14 rfl rfl ?_
  refine x_getr C fl_X1_17 (Or.inr ⟨_, rfl⟩) dX1_isOver_14 17 rfl hC.1 (coR_towns hC) ?_
  refine x_iload_n C dX1_isOver_17 18 rfl rfl ?_
  refine x_aaldr (t := 5) C dX1_isOver_18 19 rfl (coA_towns hC) (by decide) (coN_towns hC) rfl (by omega) (by decide) (ct_elt hR ht) ?_
  refine x_geti C fl_X1_121 (Or.inl rfl) dX1_isOver_19 22 rfl (ct_T hR ht) (ct_nights hR ht) ?_
  refine x_iadd C dX1_isOver_22 23 rfl rfl ?_
  refine x_icmplt C dX1_isOver_23 26 30 rfl (by decide) (fun h23 => ?_) (fun h23 => ?_)
  · have e23 : ¬ T 484 t + T 483 t ≤ T 473 13 := Int32.not_le.mpr h23
    refine x_ic (j := 0) C dX1_isOver_30 31 rfl ?_
    exact x_zret C dX1_isOver_31 (Nat.le_refl _) (Nat.le_refl _) rfl (Qz_of (by unfold ovB; simp only [e23, decide_true, decide_false, bzt, bzf]))
  · have e23 := Int32.not_lt.mp h23
    refine x_ic (j := 1) C dX1_isOver_26 27 rfl ?_
    refine x_goto C dX1_isOver_27 31 (by decide) ?_
    exact x_zret C dX1_isOver_31 (Nat.le_refl _) (Nat.le_refl _) rfl (Qz_of (by unfold ovB; simp only [e23, decide_true, decide_false, bzt, bzf]))
theorem kX1_isRoom (hR : CoR K S I T) (hI : Tok T) {t r : Int32} : Ct w l yX1_isRoom cX1_isRoom 3 (some .boolean) 3 0 0 [.ref 0, .int t, .int r] S I J (Qe (some (.int (bz (toB T t && inB r (nI 0) (T 485 (nt t) - nI 1))))) S I J) := by
  refine Ct.of [some _, some _, some _] rfl (Nat.le_of_ble_eq_true rfl) (by decide) ?_
  intro κ hκ C
  subst hκ
  have hC := cr_S hR
  have hp10 := tk_p2 hI
  have ht6 := tk_t2 hI
  have hg30 := tk_g2 hI
  have hc30 := tk_c2 hI
  have hn500 := tk_n2 hI
  refine x_aloadr_n C dX1_isRoom_0 1 rfl rfl ?_
  refine x_iload_n C dX1_isRoom_1 2 rfl rfl ?_
  refine x_callV C lk_X1_124 dX1_isRoom_2 5 rfl [_] [] rfl rfl hC.1 (Nat.le_of_ble_eq_true rfl) (by decide) (Nat.le_refl _) (Nat.le_refl _) (kX1_isTown hR) ?_
  rintro _ _ _ _ ⟨rfl, rfl, rfl, rfl⟩
  refine x_ifeqZ C dX1_isRoom_5 8 31 rfl (by decide) (fun h5 => ?_) (fun h5 => ?_)
  · refine x_ic (j := 0) C dX1_isRoom_31 32 rfl ?_
    exact x_zret C dX1_isRoom_32 (Nat.le_refl _) (Nat.le_refl _) rfl (Qz_of (by simp [bzt, bzf, h5]))
  · obtain ⟨t, ht, rfl⟩ := to_I hI h5
    have et : nt (nI t) = t := nt_nI (by omega)
    refine x_iload_n C dX1_isRoom_8 9 rfl rfl ?_
    refine x_ic (j := 0) C dX1_isRoom_9 10 rfl ?_
    refine x_aloadr_n C dX1_isRoom_10 11 rfl rfl ?_
    refine x_getr C fl_X1_17 (Or.inr ⟨_, rfl⟩) dX1_isRoom_11 14 rfl hC.1 (coR_towns hC) ?_
    refine x_iload_n C dX1_isRoom_14 15 rfl rfl ?_
    refine x_aaldr (t := 5) C dX1_isRoom_15 16 rfl (coA_towns hC) (by decide) (coN_towns hC) rfl (by omega) (by decide) (ct_elt hR ht) ?_
    refine x_geti C fl_X1_128 (Or.inl rfl) dX1_isRoom_16 19 rfl (ct_T hR ht) (ct_roomMany hR ht) ?_
    refine x_ic (j := 1) C dX1_isRoom_19 20 rfl ?_
    refine x_isub C dX1_isRoom_20 21 rfl rfl ?_
    refine x_callS C lk_X1_108 dX1_isRoom_21 24 rfl [_, _, _] [] rfl rfl (Nat.le_of_ble_eq_true rfl) (by decide) (Nat.le_refl _) (Nat.le_refl _) kX1_in ?_
    rintro _ _ _ _ ⟨rfl, rfl, rfl, rfl⟩
    refine x_ifeqZ C dX1_isRoom_24 27 31 rfl (by decide) (fun h24 => ?_) (fun h24 => ?_)
    · refine x_ic (j := 0) C dX1_isRoom_31 32 rfl ?_
      exact x_zret C dX1_isRoom_32 (Nat.le_refl _) (Nat.le_refl _) rfl (Qz_of (by simp [bzt, bzf, h5, et, h24]))
    · refine x_ic (j := 1) C dX1_isRoom_27 28 rfl ?_
      refine x_goto C dX1_isRoom_28 32 (by decide) ?_
      exact x_zret C dX1_isRoom_32 (Nat.le_refl _) (Nat.le_refl _) rfl (Qz_of (by simp [bzt, bzf, h5, et, h24]))
theorem kX4_isThere (hR : CoR K S I T) {p : Nat} (hp : p < pn T) {t : Int32} : Ct w l yX4_isThere cX4_isThere 2 (some .boolean) 2 0 0 [.ref (pa K p), .int t] S I J (Qe (some (.int (bz (thB T p t)))) S I J) := by
  refine Ct.of [some _, some _] rfl (Nat.le_of_ble_eq_true rfl) (by decide) ?_
  intro κ hκ C
  subst hκ
  refine x_aloadr_n C dX4_isThere_0 1 rfl rfl ?_
  refine x_geti C fl_X4_32 (Or.inr (Or.inl rfl)) dX4_isThere_1 4 rfl (cp_T hR hp) (cp_isGone hR hp) ?_
  refine x_ifne C dX4_isThere_4 7 26 rfl (by decide) (fun h4 => ?_) (fun h4 => ?_)
  · refine x_ic (j := 0) C dX4_isThere_26 27 rfl ?_
    exact x_zret C dX4_isThere_27 (Nat.le_refl _) (Nat.le_refl _) rfl (Qz_of (by unfold thB; first | (rw [Bool.and_assoc, e19]; simp [bzt, bzf, h4]) | simp [bzt, bzf, h4]))
  · refine x_iload_n C dX4_isThere_7 8 rfl rfl ?_
    refine x_aloadr_n C dX4_isThere_8 9 rfl rfl ?_
    refine x_geti C fl_X4_26 (Or.inl rfl) dX4_isThere_9 12 rfl (cp_T hR hp) (cp_from hR hp) ?_
    refine x_aloadr_n C dX4_isThere_12 13 rfl rfl ?_
    refine x_geti C fl_X4_29 (Or.inl rfl) dX4_isThere_13 16 rfl (cp_T hR hp) (cp_to hR hp) ?_
    refine x_callS C lk_X4_35 dX4_isThere_16 19 rfl [_, _, _] [] rfl rfl (Nat.le_of_ble_eq_true rfl) (by decide) (Nat.le_refl _) (Nat.le_refl _) kX1_in ?_
    rintro _ _ _ _ ⟨rfl, rfl, rfl, rfl⟩
    refine x_ifeqZ C dX4_isThere_19 22 26 rfl (by decide) (fun h19 => ?_) (fun h19 => ?_)
    · have e19 : (decide (T 478 p ≤ t) && decide (t ≤ T 479 p)) = false := h19
      refine x_ic (j := 0) C dX4_isThere_26 27 rfl ?_
      exact x_zret C dX4_isThere_27 (Nat.le_refl _) (Nat.le_refl _) rfl (Qz_of (by unfold thB; first | (rw [Bool.and_assoc, e19]; simp [bzt, bzf, h4]) | simp [bzt, bzf, h4]))
    · have e19 : (decide (T 478 p ≤ t) && decide (t ≤ T 479 p)) = true := h19
      refine x_ic (j := 1) C dX4_isThere_22 23 rfl ?_
      refine x_goto C dX4_isThere_23 27 (by decide) ?_
      exact x_zret C dX4_isThere_27 (Nat.le_refl _) (Nat.le_refl _) rfl (Qz_of (by unfold thB; first | (rw [Bool.and_assoc, e19]; simp [bzt, bzf, h4]) | simp [bzt, bzf, h4]))
theorem kX4_mayShare (hR : CoR K S I T) (hI : Tok T) (hF : FrOk T) {a b : Nat} (ha : a < pn T) (hb : b < pn T) : Ct w l yX4_mayShare cX4_mayShare 2 (some .boolean) 1 0 0 [.ref (pa K a), .ref (pa K b)] S I J (Qe (some (.int (bz (shB T a b)))) S I J) := by
  have hp10 := tk_p2 hI
  have hbl := bm_lt T a
  refine Ct.of [some _, some _] rfl (Nat.le_of_ble_eq_true rfl) (by decide) ?_
  intro κ hκ C
  subst hκ
  refine x_aloadr_n C dX4_mayShare_0 1 rfl rfl ?_
  refine x_getq C fl_X4_41 (Or.inl ⟨_, rfl⟩) dX4_mayShare_1 4 rfl (cp_T hR ha) (cp_friend hR ha) ?_
  refine x_aloadr_n C dX4_mayShare_4 5 rfl rfl ?_
  refine x_acmpne (a := frR K T a) (b := some (pa K b)) C dX4_mayShare_5 8 10 rfl (by decide) (ac_in (fr_tag hR hI hF ha) (fun x hx => by cases hx; rw [cp_T hR hb]; decide)) (fun h5 => ?_) (fun h5 => ?_)
  · have e5 : ¬ T 481 a = nI b := fun q => h5 ((fr_eq hR hI hF ha hb).mpr q)
    refine x_aloadr_n C dX4_mayShare_10 11 rfl rfl ?_
    refine x_geti C fl_X4_13 (Or.inr (Or.inl rfl)) dX4_mayShare_11 14 rfl (cp_T hR ha) (cp_shares hR ha) ?_
    refine x_ifeq C dX4_mayShare_14 17 67 rfl (by decide) (fun h14 => ?_) (fun h14 => ?_)
    · refine x_ic (j := 0) C dX4_mayShare_67 68 rfl ?_
      exact x_zret C dX4_mayShare_68 (Nat.le_refl _) (Nat.le_refl _) rfl (Qz_of (by unfold shB; simp only [e5, h14, decide_true, decide_false, Bool.false_and, Bool.and_false, Bool.true_and, Bool.or_true, Bool.true_or, Bool.or_false, Bool.false_or, not_false_eq_true, not_true_eq_false, bzt, bzf]))
    · refine x_aloadr_n C dX4_mayShare_17 18 rfl rfl ?_
      refine x_geti C fl_X4_13 (Or.inr (Or.inl rfl)) dX4_mayShare_18 21 rfl (cp_T hR hb) (cp_shares hR hb) ?_
      refine x_ifeq C dX4_mayShare_21 24 67 rfl (by decide) (fun h21 => ?_) (fun h21 => ?_)
      · refine x_ic (j := 0) C dX4_mayShare_67 68 rfl ?_
        exact x_zret C dX4_mayShare_68 (Nat.le_refl _) (Nat.le_refl _) rfl (Qz_of (by unfold shB; simp only [e5, h14, h21, decide_true, decide_false, Bool.false_and, Bool.and_false, Bool.true_and, Bool.or_true, Bool.true_or, Bool.or_false, Bool.false_or, not_false_eq_true, not_true_eq_false, bzt, bzf]))
      · refine x_aloadr_n C dX4_mayShare_24 25 rfl rfl ?_
        refine x_geti C fl_X4_17 (Or.inl rfl) dX4_mayShare_25 28 rfl (cp_T hR ha) (cp_sort hR ha) ?_
        refine x_aloadr_n C dX4_mayShare_28 29 rfl rfl ?_
        refine x_geti C fl_X4_17 (Or.inl rfl) dX4_mayShare_29 32 rfl (cp_T hR hb) (cp_sort hR hb) ?_
        refine x_icmpne C dX4_mayShare_32 35 67 rfl (by decide) (fun h32 => ?_) (fun h32 => ?_)
        · refine x_ic (j := 0) C dX4_mayShare_67 68 rfl ?_
          exact x_zret C dX4_mayShare_68 (Nat.le_refl _) (Nat.le_refl _) rfl (Qz_of (by unfold shB; simp only [e5, h14, h21, h32, decide_true, decide_false, Bool.false_and, Bool.and_false, Bool.true_and, Bool.or_true, Bool.true_or, Bool.or_false, Bool.false_or, not_false_eq_true, not_true_eq_false, bzt, bzf]))
        · refine x_aloadr_n C dX4_mayShare_35 36 rfl rfl ?_
          refine x_getq C fl_X4_41 (Or.inl ⟨_, rfl⟩) dX4_mayShare_36 39 rfl (cp_T hR ha) (cp_friend hR ha) ?_
          refine x_ifnonnull C dX4_mayShare_39 42 67 rfl (by decide) (fun b39 h39 => ?_) (fun h39 => ?_)
          · have e39 : ¬ T 481 a = -1 := fun q => by rw [fr_none.mpr q] at h39; cases h39
            refine x_ic (j := 0) C dX4_mayShare_67 68 rfl ?_
            exact x_zret C dX4_mayShare_68 (Nat.le_refl _) (Nat.le_refl _) rfl (Qz_of (by unfold shB; simp only [e5, h14, h21, h32, e39, decide_true, decide_false, Bool.false_and, Bool.and_false, Bool.true_and, Bool.or_true, Bool.true_or, Bool.or_false, Bool.false_or, not_false_eq_true, not_true_eq_false, bzt, bzf]))
          · have e39 := eq_true (fr_none.mp h39)
            refine x_aloadr_n C dX4_mayShare_42 43 rfl rfl ?_
            refine x_getq C fl_X4_41 (Or.inl ⟨_, rfl⟩) dX4_mayShare_43 46 rfl (cp_T hR hb) (cp_friend hR hb) ?_
            refine x_ifnonnull C dX4_mayShare_46 49 67 rfl (by decide) (fun b46 h46 => ?_) (fun h46 => ?_)
            · have e46 : ¬ T 481 b = -1 := fun q => by rw [fr_none.mpr q] at h46; cases h46
              refine x_ic (j := 0) C dX4_mayShare_67 68 rfl ?_
              exact x_zret C dX4_mayShare_68 (Nat.le_refl _) (Nat.le_refl _) rfl (Qz_of (by unfold shB; simp only [e5, h14, h21, h32, e39, e46, decide_true, decide_false, Bool.false_and, Bool.and_false, Bool.true_and, Bool.or_true, Bool.true_or, Bool.or_false, Bool.false_or, not_false_eq_true, not_true_eq_false, bzt, bzf]))
            · have e46 := eq_true (fr_none.mp h46)
              refine x_aloadr_n C dX4_mayShare_49 50 rfl rfl ?_
              refine x_geti C fl_X4_45 (Or.inl rfl) dX4_mayShare_50 53 rfl (cp_T hR ha) (cp_bars hR ha) ?_
              refine x_aloadr_n C dX4_mayShare_53 54 rfl rfl ?_
              refine x_geti C fl_X4_7 (Or.inl rfl) dX4_mayShare_54 57 rfl (cp_T hR hb) (cp_number hR hb) ?_
              refine x_ishr C dX4_mayShare_57 58 rfl (nI_shrp _ _ (by omega) (by omega)) ?_
              refine x_ic (j := 1) C dX4_mayShare_58 59 rfl ?_
              refine x_iand C dX4_mayShare_59 60 rfl (nI_bit _ _) ?_
              refine x_ifneN C dX4_mayShare_60 63 67 rfl (by decide) (by have := bit_lt (bmN T a) b; omega) (fun h60 => ?_) (fun h60 => ?_)
              · have e60 : ¬ T 482 (10 * a + b) = 0 := fun q => h60 ((bit_0 _ _).mpr (by rw [bm_bit (by omega)]; simp [q]))
                refine x_ic (j := 0) C dX4_mayShare_67 68 rfl ?_
                exact x_zret C dX4_mayShare_68 (Nat.le_refl _) (Nat.le_refl _) rfl (Qz_of (by unfold shB; simp only [e5, h14, h21, h32, e39, e46, e60, decide_true, decide_false, Bool.false_and, Bool.and_false, Bool.true_and, Bool.or_true, Bool.true_or, Bool.or_false, Bool.false_or, not_false_eq_true, not_true_eq_false, bzt, bzf]))
              · have e60 : T 482 (10 * a + b) = 0 := by { have h9 := (bit_0 _ _).mp h60; rw [bm_bit (by omega)] at h9; simpa using h9 }
                refine x_ic (j := 1) C dX4_mayShare_63 64 rfl ?_
                refine x_goto C dX4_mayShare_64 68 (by decide) ?_
                exact x_zret C dX4_mayShare_68 (Nat.le_refl _) (Nat.le_refl _) rfl (Qz_of (by unfold shB; simp only [e5, h14, h21, h32, e39, e46, e60, decide_true, decide_false, Bool.false_and, Bool.and_false, Bool.true_and, Bool.or_true, Bool.true_or, Bool.or_false, Bool.false_or, not_false_eq_true, not_true_eq_false, bzt, bzf]))
  · have e5 := (fr_eq hR hI hF ha hb).mp h5
    refine x_ic (j := 1) C dX4_mayShare_8 9 rfl ?_
    exact x_zret C dX4_mayShare_9 (Nat.le_refl _) (Nat.le_refl _) rfl (Qz_of (by unfold shB; simp only [e5, decide_true, Bool.true_or]; rfl))
end Co1

/-! the component: what is told -/
section Co4
variable {w : Wd} {l : Launch} {K : Ly} {S : Sh} {I T : Mi} {J : Ml}
theorem si_pn {T : Mi} {t : Nat} {r : Int32} : si T (pn T) t r < 2 ^ pn T := msk_lt _ _
theorem kX1_isRight (hR : CoR K S I T) (hI : Tok T) (hF : FrOk T) (hL : LsOk T) {t : Nat} (ht : t < tn T) (hbe : bedsOk T t) : Ct w l yX1_isRight cX1_isRight 5 (some .boolean) 3 0 0 [.ref 0, .int (nI t)] S I J (Qe (some (.int (bz (riB T t)))) S I J) := by
  refine Ct.of [some _, some _, none, none, none] rfl (Nat.le_of_ble_eq_true rfl) (by decide) ?_
  intro κ hκ C
  subst hκ
  have hC := cr_S hR
  have hp10 := tk_p2 hI
  have ht6 := tk_t2 hI
  have hg30 := tk_g2 hI
  have hc30 := tk_c2 hI
  have hn500 := tk_n2 hI
  have hr10 := tk_r2 hI (show t < 6 by omega)
  have hRm : ∀ (j r : Nat) (b : Bool) (x4 : Option Value), r + j = rn T t → b = (decide (cnt (fun p => thB T p (nI t) && decide (T 490 (10 * t + p) = -1)) (pn T) = 0) && decide (cnt (fun r => !mbB T (10 * t + r) (si T (pn T) t (nI r)) (pn T)) r = 0)) → XX w κ (Zr w κ (Qe (some (.int (bz (riB T t)))) S I J)) 0 0 65 [some (.ref 0), some (.int (nI t)), some (.ref (ta K t)), some (.int (bz b)), some (.int (nI r))] [] S I J := by
    intro j
    induction j with
    | zero =>
      intro r b x4 hr hb
      have hr : rn T t = r := Eq.symm hr
      subst hr
      refine x_iload C dX1_isRight_65 67 rfl rfl ?_
      refine x_aloadr_n C dX1_isRight_67 68 rfl rfl ?_
      refine x_geti C fl_X1_128 (Or.inl rfl) dX1_isRight_68 71 rfl (ct_T hR ht) ((ct_roomMany hR ht).trans (tk_r (I := T) hI (by omega))) ?_
      refine x_icmpgeN C dX1_isRight_71 74 110 rfl (by decide) (by omega) (by omega) (fun _ => ?_) (fun h71 => absurd h71 (by omega))
      refine x_iload_n C dX1_isRight_110 111 rfl rfl ?_
      exact x_zret C dX1_isRight_111 (Nat.le_refl _) (Nat.le_refl _) (bz_nar _) (Qz_of (by rw [hb]; rfl))
    | succ j ih =>
      intro r b x4 hr hb
      have hrr : r < rn T t := by omega
      refine x_iload C dX1_isRight_65 67 rfl rfl ?_
      refine x_aloadr_n C dX1_isRight_67 68 rfl rfl ?_
      refine x_geti C fl_X1_128 (Or.inl rfl) dX1_isRight_68 71 rfl (ct_T hR ht) ((ct_roomMany hR ht).trans (tk_r (I := T) hI (by omega))) ?_
      refine x_icmpgeN C dX1_isRight_71 74 110 rfl (by decide) (by omega) (by omega) (fun h71 => absurd h71 (by omega)) (fun _ => ?_)
      refine x_iload_n C dX1_isRight_74 75 rfl rfl ?_
      refine x_ifeqZ C dX1_isRight_75 78 102 rfl (by decide) (fun h75 => ?_) (fun h75 => ?_)
      · rw [h75] at hb
        refine x_ic (j := 0) C dX1_isRight_102 103 rfl ?_
        refine x_istore_n C dX1_isRight_103 104 rfl [_, _, _, _, _] (by decide) rfl rfl ?_
        refine x_iinc C dX1_isRight_104 107 rfl [_, _, _, _, _] (nI_inc _) (by decide) rfl rfl rfl ?_
        refine x_goto C dX1_isRight_107 65 (by decide) ?_
        first
          | exact ih (r + 1) false x4 (by omega) (by have h9 := hb.symm; rw [Bool.and_eq_false_iff] at h9; symm; rw [Bool.and_eq_false_iff]; rcases h9 with q | q; exact Or.inl q; right; rw [decide_eq_false_iff_not] at q ⊢; have := cnt_mono (fun r => !mbB T (10 * t + r) (si T (pn T) t (nI r)) (pn T)) (show r ≤ r + 1 by omega); omega)
          | exact ih (r + 1) false x4 (by omega) (by rw [cnt_t (by simp [h95])]; simp)
          | exact ih (r + 1) true x4 (by omega) (by rw [cnt_f (by simp [h95]), ← hb, h75])
      · refine x_aloadr_n C dX1_isRight_78 79 rfl rfl ?_
        refine x_aloadr_n C dX1_isRight_79 80 rfl rfl ?_
        refine x_getr C fl_X1_187 (Or.inr ⟨_, rfl⟩) dX1_isRight_80 83 rfl (ct_T hR ht) (ct_rooms hR ht) ?_
        refine x_iload C dX1_isRight_83 85 rfl rfl ?_
        refine x_aaldr (t := 6) C dX1_isRight_85 86 rfl (ct_roomsA hR ht) (by decide) (ct_roomsN hR ht) rfl (by omega) (by decide) (cm_elt hR ht hrr) ?_
        refine x_aloadr_n C dX1_isRight_86 87 rfl rfl ?_
        refine x_iload C dX1_isRight_87 89 rfl rfl ?_
        refine x_callV C lk_X1_226 dX1_isRight_89 92 rfl [_] [_, _] rfl rfl (ct_T hR ht) (Nat.le_of_ble_eq_true rfl) (by decide) (Nat.le_refl _) (Nat.le_refl _) (kX5_inside hR hI hL ht (by omega)) ?_
        rintro _ _ _ _ ⟨rfl, rfl, rfl, rfl⟩
        refine x_callV C lk_X1_242 dX1_isRight_92 95 rfl [_, _] [] rfl rfl hC.1 (Nat.le_of_ble_eq_true rfl) (by decide) (Nat.le_refl _) (Nat.le_refl _) (kX1_fits hR hI hF ht hrr si_pn hbe) ?_
        rintro _ _ _ _ ⟨rfl, rfl, rfl, rfl⟩
        refine x_ifeqZ C dX1_isRight_95 98 102 rfl (by decide) (fun h95 => ?_) (fun h95 => ?_)
        · refine x_ic (j := 0) C dX1_isRight_102 103 rfl ?_
          refine x_istore_n C dX1_isRight_103 104 rfl [_, _, _, _, _] (by decide) rfl rfl ?_
          refine x_iinc C dX1_isRight_104 107 rfl [_, _, _, _, _] (nI_inc _) (by decide) rfl rfl rfl ?_
          refine x_goto C dX1_isRight_107 65 (by decide) ?_
          first
            | exact ih (r + 1) false x4 (by omega) (by have h9 := hb.symm; rw [Bool.and_eq_false_iff] at h9; symm; rw [Bool.and_eq_false_iff]; rcases h9 with q | q; exact Or.inl q; right; rw [decide_eq_false_iff_not] at q ⊢; have := cnt_mono (fun r => !mbB T (10 * t + r) (si T (pn T) t (nI r)) (pn T)) (show r ≤ r + 1 by omega); omega)
            | exact ih (r + 1) false x4 (by omega) (by rw [cnt_t (by simp [h95])]; simp)
            | exact ih (r + 1) true x4 (by omega) (by rw [cnt_f (by simp [h95]), ← hb, h75])
        · refine x_ic (j := 1) C dX1_isRight_98 99 rfl ?_
          refine x_goto C dX1_isRight_99 103 (by decide) ?_
          refine x_istore_n C dX1_isRight_103 104 rfl [_, _, _, _, _] (by decide) rfl rfl ?_
          refine x_iinc C dX1_isRight_104 107 rfl [_, _, _, _, _] (nI_inc _) (by decide) rfl rfl rfl ?_
          refine x_goto C dX1_isRight_107 65 (by decide) ?_
          first
            | exact ih (r + 1) false x4 (by omega) (by have h9 := hb.symm; rw [Bool.and_eq_false_iff] at h9; symm; rw [Bool.and_eq_false_iff]; rcases h9 with q | q; exact Or.inl q; right; rw [decide_eq_false_iff_not] at q ⊢; have := cnt_mono (fun r => !mbB T (10 * t + r) (si T (pn T) t (nI r)) (pn T)) (show r ≤ r + 1 by omega); omega)
            | exact ih (r + 1) false x4 (by omega) (by rw [cnt_t (by simp [h95])]; simp)
            | exact ih (r + 1) true x4 (by omega) (by rw [cnt_f (by simp [h95]), ← hb, h75])
  have hPm : ∀ (j p : Nat) (b : Bool), p + j = pn T → b = decide (cnt (fun p => thB T p (nI t) && decide (T 490 (10 * t + p) = -1)) p = 0) → XX w κ (Zr w κ (Qe (some (.int (bz (riB T t)))) S I J)) 0 0 12 [some (.ref 0), some (.int (nI t)), some (.ref (ta K t)), some (.int (bz b)), some (.int (nI p))] [] S I J := by
    intro j
    induction j with
    | zero =>
      intro p b hp hb
      have hp : pn T = p := Eq.symm hp
      subst hp
      refine x_iload C dX1_isRight_12 14 rfl rfl ?_
      refine x_aloadr_n C dX1_isRight_14 15 rfl rfl ?_
      refine x_geti C fl_X1_105 (Or.inl rfl) dX1_isRight_15 18 rfl hC.1 ((cs_peopleMany hR).trans (tk_p (I := T) hI)) ?_
      refine x_icmpgeN C dX1_isRight_18 21 62 rfl (by decide) (by omega) (by omega) (fun _ => ?_) (fun h18 => absurd h18 (by omega))
      refine x_ic (j := 0) C dX1_isRight_62 63 rfl ?_
      refine x_istore C dX1_isRight_63 65 rfl [_, _, _, _, _] (by decide) rfl rfl ?_
      exact hRm (rn T t) 0 b none (Nat.zero_add _) (by rw [hb]; simp [cnt])
    | succ j ih =>
      intro p b hp hb
      have hpp : p < pn T := by omega
      refine x_iload C dX1_isRight_12 14 rfl rfl ?_
      refine x_aloadr_n C dX1_isRight_14 15 rfl rfl ?_
      refine x_geti C fl_X1_105 (Or.inl rfl) dX1_isRight_15 18 rfl hC.1 ((cs_peopleMany hR).trans (tk_p (I := T) hI)) ?_
      refine x_icmpgeN C dX1_isRight_18 21 62 rfl (by decide) (by omega) (by omega) (fun h18 => absurd h18 (by omega)) (fun _ => ?_)
      refine x_iload_n C dX1_isRight_21 22 rfl rfl ?_
      refine x_ifeqZ C dX1_isRight_22 25 54 rfl (by decide) (fun h22 => ?_) (fun h22 => ?_)
      · rw [h22] at hb
        refine x_ic (j := 0) C dX1_isRight_54 55 rfl ?_
        refine x_istore_n C dX1_isRight_55 56 rfl [_, _, _, _, _] (by decide) rfl rfl ?_
        refine x_iinc C dX1_isRight_56 59 rfl [_, _, _, _, _] (nI_inc _) (by decide) rfl rfl rfl ?_
        refine x_goto C dX1_isRight_59 12 (by decide) ?_
        first
          | exact ih (p + 1) false (by omega) (by have h9 := hb.symm; symm; rw [decide_eq_false_iff_not] at h9 ⊢; have := cnt_mono (fun p => thB T p (nI t) && decide (T 490 (10 * t + p) = -1)) (show p ≤ p + 1 by omega); omega)
          | exact ih (p + 1) false (by omega) (by rw [cnt_t (by simp [h36, h47])]; simp)
          | exact ih (p + 1) true (by omega) (by rw [cnt_f (by first | simp [h47] | simp [h36]), ← hb, h22])
      · refine x_aloadr_n C dX1_isRight_25 26 rfl rfl ?_
        refine x_getr C fl_X1_11 (Or.inr ⟨_, rfl⟩) dX1_isRight_26 29 rfl hC.1 (coR_people hC) ?_
        refine x_iload C dX1_isRight_29 31 rfl rfl ?_
        refine x_aaldr (t := 4) C dX1_isRight_31 32 rfl (coA_people hC) (by decide) (coN_people hC) rfl (by omega) (by decide) (cp_elt hR hpp) ?_
        refine x_iload_n C dX1_isRight_32 33 rfl rfl ?_
        refine x_callV C lk_X1_219 dX1_isRight_33 36 rfl [_] [] rfl rfl (cp_T hR hpp) (Nat.le_of_ble_eq_true rfl) (by decide) (Nat.le_refl _) (Nat.le_refl _) (kX4_isThere hR hpp) ?_
        rintro _ _ _ _ ⟨rfl, rfl, rfl, rfl⟩
        refine x_ifeqZ C dX1_isRight_36 39 50 rfl (by decide) (fun h36 => ?_) (fun h36 => ?_)
        · refine x_ic (j := 1) C dX1_isRight_50 51 rfl ?_
          refine x_goto C dX1_isRight_51 55 (by decide) ?_
          refine x_istore_n C dX1_isRight_55 56 rfl [_, _, _, _, _] (by decide) rfl rfl ?_
          refine x_iinc C dX1_isRight_56 59 rfl [_, _, _, _, _] (nI_inc _) (by decide) rfl rfl rfl ?_
          refine x_goto C dX1_isRight_59 12 (by decide) ?_
          first
            | exact ih (p + 1) false (by omega) (by have h9 := hb.symm; symm; rw [decide_eq_false_iff_not] at h9 ⊢; have := cnt_mono (fun p => thB T p (nI t) && decide (T 490 (10 * t + p) = -1)) (show p ≤ p + 1 by omega); omega)
            | exact ih (p + 1) false (by omega) (by rw [cnt_t (by simp [h36, h47])]; simp)
            | exact ih (p + 1) true (by omega) (by rw [cnt_f (by first | simp [h47] | simp [h36]), ← hb, h22])
        · refine x_aloadr_n C dX1_isRight_39 40 rfl rfl ?_
          refine x_getr C fl_X1_148 (Or.inr ⟨_, rfl⟩) dX1_isRight_40 43 rfl (ct_T hR ht) (ct_list hR ht) ?_
          refine x_iload C dX1_isRight_43 45 rfl rfl ?_
          refine x_iald C dX1_isRight_45 46 rfl (ct_listA hR ht) (ct_listN hR ht) rfl (by omega) (by decide) (ct_listI hR ht _ (by omega)) ?_
          refine x_icm C dX1_isRight_46 47 rfl ?_
          refine x_icmpeq C dX1_isRight_47 50 54 rfl (by decide) (fun h47 => ?_) (fun h47 => ?_)
          · refine x_ic (j := 0) C dX1_isRight_54 55 rfl ?_
            refine x_istore_n C dX1_isRight_55 56 rfl [_, _, _, _, _] (by decide) rfl rfl ?_
            refine x_iinc C dX1_isRight_56 59 rfl [_, _, _, _, _] (nI_inc _) (by decide) rfl rfl rfl ?_
            refine x_goto C dX1_isRight_59 12 (by decide) ?_
            first
              | exact ih (p + 1) false (by omega) (by have h9 := hb.symm; symm; rw [decide_eq_false_iff_not] at h9 ⊢; have := cnt_mono (fun p => thB T p (nI t) && decide (T 490 (10 * t + p) = -1)) (show p ≤ p + 1 by omega); omega)
              | exact ih (p + 1) false (by omega) (by rw [cnt_t (by simp [h36, h47])]; simp)
              | exact ih (p + 1) true (by omega) (by rw [cnt_f (by first | simp [h47] | simp [h36]), ← hb, h22])
          · refine x_ic (j := 1) C dX1_isRight_50 51 rfl ?_
            refine x_goto C dX1_isRight_51 55 (by decide) ?_
            refine x_istore_n C dX1_isRight_55 56 rfl [_, _, _, _, _] (by decide) rfl rfl ?_
            refine x_iinc C dX1_isRight_56 59 rfl [_, _, _, _, _] (nI_inc _) (by decide) rfl rfl rfl ?_
            refine x_goto C dX1_isRight_59 12 (by decide) ?_
            first
              | exact ih (p + 1) false (by omega) (by have h9 := hb.symm; symm; rw [decide_eq_false_iff_not] at h9 ⊢; have := cnt_mono (fun p => thB T p (nI t) && decide (T 490 (10 * t + p) = -1)) (show p ≤ p + 1 by omega); omega)
              | exact ih (p + 1) false (by omega) (by rw [cnt_t (by simp [h36, h47])]; simp)
              | exact ih (p + 1) true (by omega) (by rw [cnt_f (by first | simp [h47] | simp [h36]), ← hb, h22])
  refine x_aloadr_n C dX1_isRight_0 1 rfl rfl ?_
  refine x_getr C fl_X1_17 (Or.inr ⟨_, rfl⟩) dX1_isRight_1 4 rfl hC.1 (coR_towns hC) ?_
  refine x_iload_n C dX1_isRight_4 5 rfl rfl ?_
  refine x_aaldr (t := 5) C dX1_isRight_5 6 rfl (coA_towns hC) (by decide) (coN_towns hC) rfl (by omega) (by decide) (ct_elt hR ht) ?_
  refine x_astorer_n C dX1_isRight_6 7 rfl [_, _, _, _, _] (by decide) rfl rfl ?_
  refine x_ic (j := 1) C dX1_isRight_7 8 rfl ?_
  refine x_istore_n C dX1_isRight_8 9 rfl [_, _, _, _, _] (by decide) rfl rfl ?_
  refine x_ic (j := 0) C dX1_isRight_9 10 rfl ?_
  refine x_istore C dX1_isRight_10 12 rfl [_, _, _, _, _] (by decide) rfl rfl ?_
  exact hPm (pn T) 0 true (Nat.zero_add _) rfl
theorem kX1_right (hR : CoR K S I T) (hI : Tok T) (hF : FrOk T) (hL : LsOk T) (hbe : ∀ t, t < tn T → bedsOk T t) {t : Int32} : Ct w l yX1_right cX1_right 2 (some .boolean) 4 0 0 [.ref 0, .int t] S I J (Qe (some (.int (bz (sp_right T t)))) S I J) := by
  refine Ct.of [some _, some _] rfl (Nat.le_of_ble_eq_true rfl) (by decide) ?_
  intro κ hκ C
  subst hκ
  have hC := cr_S hR
  have hp10 := tk_p2 hI
  have ht6 := tk_t2 hI
  have hg30 := tk_g2 hI
  have hc30 := tk_c2 hI
  have hn500 := tk_n2 hI
  refine x_aloadr_n C dX1_right_0 1 rfl rfl ?_
  refine x_iload_n C dX1_right_1 2 rfl rfl ?_
  refine x_callV C lk_X1_124 dX1_right_2 5 rfl [_] [] rfl rfl hC.1 (Nat.le_of_ble_eq_true rfl) (by decide) (Nat.le_refl _) (Nat.le_refl _) (kX1_isTown hR) ?_
  rintro _ _ _ _ ⟨rfl, rfl, rfl, rfl⟩
  refine x_ifeqZ C dX1_right_5 8 20 rfl (by decide) (fun h5 => ?_) (fun h5 => ?_)
  · refine x_ic (j := 0) C dX1_right_20 21 rfl ?_
    exact x_zret C dX1_right_21 (Nat.le_refl _) (Nat.le_refl _) rfl (Qz_of (by simp [sp_right, bzt, bzf, h5]))
  · obtain ⟨t, ht, rfl⟩ := to_I hI h5
    have et : nt (nI t) = t := nt_nI (by omega)
    refine x_aloadr_n C dX1_right_8 9 rfl rfl ?_
    refine x_iload_n C dX1_right_9 10 rfl rfl ?_
    refine x_callV C lk_X1_276 dX1_right_10 13 rfl [_] [] rfl rfl hC.1 (Nat.le_of_ble_eq_true rfl) (by decide) (Nat.le_refl _) (Nat.le_refl _) (kX1_isRight hR hI hF hL ht (hbe t ht)) ?_
    rintro _ _ _ _ ⟨rfl, rfl, rfl, rfl⟩
    refine x_ifeqZ C dX1_right_13 16 20 rfl (by decide) (fun h13 => ?_) (fun h13 => ?_)
    · refine x_ic (j := 0) C dX1_right_20 21 rfl ?_
      exact x_zret C dX1_right_21 (Nat.le_refl _) (Nat.le_refl _) rfl (Qz_of (by simp [sp_right, bzt, bzf, h5, et, h13]))
    · refine x_ic (j := 1) C dX1_right_16 17 rfl ?_
      refine x_goto C dX1_right_17 21 (by decide) ?_
      exact x_zret C dX1_right_21 (Nat.le_refl _) (Nat.le_refl _) rfl (Qz_of (by simp [sp_right, bzt, bzf, h5, et, h13]))
theorem kX1_meals (hR : CoR K S I T) (hI : Tok T) {t d : Int32} : Ct w l yX1_meals cX1_meals 5 (some .int) 3 0 0 [.ref 0, .int t, .int d] S I J (Qe (some (.int (sp_meals T t d))) S I J) := by
  refine Ct.of [some _, some _, some _, none, none] rfl (Nat.le_of_ble_eq_true rfl) (by decide) ?_
  intro κ hκ C
  subst hκ
  have hC := cr_S hR
  have hp10 := tk_p2 hI
  have ht6 := tk_t2 hI
  have hg30 := tk_g2 hI
  have hc30 := tk_c2 hI
  have hn500 := tk_n2 hI
  refine x_aloadr_n C dX1_meals_0 1 rfl rfl ?_
  refine x_iload_n C dX1_meals_1 2 rfl rfl ?_
  refine x_callV C lk_X1_124 dX1_meals_2 5 rfl [_] [] rfl rfl hC.1 (Nat.le_of_ble_eq_true rfl) (by decide) (Nat.le_refl _) (Nat.le_refl _) (kX1_isTown hR) ?_
  rintro _ _ _ _ ⟨rfl, rfl, rfl, rfl⟩
  refine x_ifeqZ C dX1_meals_5 8 17 rfl (by decide) (fun h5 => ?_) (fun h5 => ?_)
  · refine x_icm C dX1_meals_17 18 rfl ?_
    exact x_iret C dX1_meals_18 (Nat.le_refl _) (Nat.le_refl _) (Qe_of (by simp [sp_meals, h5]))
  · obtain ⟨t, ht, rfl⟩ := to_I hI h5
    have et : nt (nI t) = t := nt_nI (by omega)
    refine x_iload_n C dX1_meals_8 9 rfl rfl ?_
    refine x_ic (j := 0) C dX1_meals_9 10 rfl ?_
    refine x_ic (j := 3) C dX1_meals_10 11 rfl ?_
    refine x_callS C lk_X1_108 dX1_meals_11 14 rfl [_, _, _] [] rfl rfl (Nat.le_of_ble_eq_true rfl) (by decide) (Nat.le_refl _) (Nat.le_refl _) kX1_in ?_
    rintro _ _ _ _ ⟨rfl, rfl, rfl, rfl⟩
    refine x_ifneZ C dX1_meals_14 17 19 rfl (by decide) (fun h14 => ?_) (fun h14 => ?_)
    · refine x_ic (j := 0) C dX1_meals_19 20 rfl ?_
      refine x_istore_n C dX1_meals_20 21 rfl [_, _, _, _, _] (by decide) rfl rfl ?_
      refine x_ic (j := 0) C dX1_meals_21 22 rfl ?_
      refine x_istore C dX1_meals_22 24 rfl [_, _, _, _, _] (by decide) rfl rfl ?_
      have hloop24 : ∀ (j p : Nat) (c : Nat), p + j = (pn T) → c = cnt (mlP T t d) p → XX w κ (Zr w κ (Qe (some (.int (sp_meals T (nI t) d))) S I J)) 0 0 24 [some (.ref 0), some (.int (nI t)), some (.int d), some (.int (nI c)), some (.int (nI p))] [] S I J := by
        intro j
        induction j with
        | zero =>
          intro p c e24 h_c
          have e24 : (pn T) = p := Eq.symm e24
          subst e24
          subst h_c
          refine x_iload C dX1_meals_24 26 rfl rfl ?_
          refine x_aloadr_n C dX1_meals_26 27 rfl rfl ?_
          refine x_geti C fl_X1_105 (Or.inl rfl) dX1_meals_27 30 rfl hC.1 ((cs_peopleMany hR).trans (tk_p (I := T) hI)) ?_
          refine x_icmpgeN C dX1_meals_30 33 77 rfl (by decide) (by omega) (by omega) (fun _ => ?_) (fun h30 => absurd h30 (by omega))
          refine x_iload_n C dX1_meals_77 78 rfl rfl ?_
          exact x_iret C dX1_meals_78 (Nat.le_refl _) (Nat.le_refl _) (Qe_of (by simp [sp_meals, h5, et, h14]))
        | succ j ih24 =>
          intro p c e24 h_c
          have hpp : p < pn T := by omega
          refine x_iload C dX1_meals_24 26 rfl rfl ?_
          refine x_aloadr_n C dX1_meals_26 27 rfl rfl ?_
          refine x_geti C fl_X1_105 (Or.inl rfl) dX1_meals_27 30 rfl hC.1 ((cs_peopleMany hR).trans (tk_p (I := T) hI)) ?_
          refine x_icmpgeN C dX1_meals_30 33 77 rfl (by decide) (by omega) (by omega) (fun h30 => absurd h30 (by omega)) (fun _ => ?_)
          refine x_iload_n C dX1_meals_33 34 rfl rfl ?_
          refine x_aloadr_n C dX1_meals_34 35 rfl rfl ?_
          refine x_getr C fl_X1_17 (Or.inr ⟨_, rfl⟩) dX1_meals_35 38 rfl hC.1 (coR_towns hC) ?_
          refine x_iload_n C dX1_meals_38 39 rfl rfl ?_
          refine x_aaldr (t := 5) C dX1_meals_39 40 rfl (coA_towns hC) (by decide) (coN_towns hC) rfl (by omega) (by decide) (ct_elt hR ht) ?_
          refine x_getr C fl_X1_148 (Or.inr ⟨_, rfl⟩) dX1_meals_40 43 rfl (ct_T hR ht) (ct_list hR ht) ?_
          refine x_iload C dX1_meals_43 45 rfl rfl ?_
          refine x_iald C dX1_meals_45 46 rfl (ct_listA hR ht) (ct_listN hR ht) rfl (by omega) (by decide) (ct_listI hR ht _ (by omega)) ?_
          refine x_icm C dX1_meals_46 47 rfl ?_
          refine x_icmpeq C dX1_meals_47 50 68 rfl (by decide) (fun h47 => ?_) (fun h47 => ?_)
          · refine x_ic (j := 0) C dX1_meals_68 69 rfl ?_
            refine x_iadd C dX1_meals_69 70 rfl (nI_add _ _) ?_
            refine x_istore_n C dX1_meals_70 71 rfl [_, _, _, _, _] (by decide) rfl rfl ?_
            refine x_iinc C dX1_meals_71 74 rfl [_, _, _, _, _] (nI_inc _) (by decide) rfl rfl rfl ?_
            refine x_goto C dX1_meals_74 24 (by decide) ?_
            exact (ih24 (p + 1) _ (by omega) (by simp [cnt, mlP, h_c, h5, et, h14, h47]))
          · refine x_aloadr_n C dX1_meals_50 51 rfl rfl ?_
            refine x_getr C fl_X1_11 (Or.inr ⟨_, rfl⟩) dX1_meals_51 54 rfl hC.1 (coR_people hC) ?_
            refine x_iload C dX1_meals_54 56 rfl rfl ?_
            refine x_aaldr (t := 4) C dX1_meals_56 57 rfl (coA_people hC) (by decide) (coN_people hC) rfl (by omega) (by decide) (cp_elt hR hpp) ?_
            refine x_geti C fl_X1_416 (Or.inl rfl) dX1_meals_57 60 rfl (cp_T hR hpp) (cp_diet hR hpp) ?_
            refine x_iload_n C dX1_meals_60 61 rfl rfl ?_
            refine x_icmpne C dX1_meals_61 64 68 rfl (by decide) (fun h61 => ?_) (fun h61 => ?_)
            · refine x_ic (j := 0) C dX1_meals_68 69 rfl ?_
              refine x_iadd C dX1_meals_69 70 rfl (nI_add _ _) ?_
              refine x_istore_n C dX1_meals_70 71 rfl [_, _, _, _, _] (by decide) rfl rfl ?_
              refine x_iinc C dX1_meals_71 74 rfl [_, _, _, _, _] (nI_inc _) (by decide) rfl rfl rfl ?_
              refine x_goto C dX1_meals_74 24 (by decide) ?_
              exact (ih24 (p + 1) _ (by omega) (by simp [cnt, mlP, h_c, h5, et, h14, h47, h61]))
            · refine x_ic (j := 1) C dX1_meals_64 65 rfl ?_
              refine x_goto C dX1_meals_65 69 (by decide) ?_
              refine x_iadd C dX1_meals_69 70 rfl (nI_add _ _) ?_
              refine x_istore_n C dX1_meals_70 71 rfl [_, _, _, _, _] (by decide) rfl rfl ?_
              refine x_iinc C dX1_meals_71 74 rfl [_, _, _, _, _] (nI_inc _) (by decide) rfl rfl rfl ?_
              refine x_goto C dX1_meals_74 24 (by decide) ?_
              exact (ih24 (p + 1) _ (by omega) (by simp [cnt, mlP, h_c, h5, et, h14, h47, h61]))
      exact hloop24 (pn T) 0 _ (Nat.zero_add _) rfl
    · refine x_icm C dX1_meals_17 18 rfl ?_
      exact x_iret C dX1_meals_18 (Nat.le_refl _) (Nat.le_refl _) (Qe_of (by simp [sp_meals, h5, et, h14]))
theorem kJ2_size {a : Nat} {L : List Rul} (h : LiR S I a L) : Ct w l yJ2_size cJ2_size 1 (some .int) 1 0 0 [.ref a] S I J (Qe (some (.int (nI L.length))) S I J) := by
  refine Ct.of [some _] rfl (Nat.le_of_ble_eq_true rfl) (by decide) ?_
  intro κ hκ C
  subst hκ
  refine x_aloadr_n C dJ2_size_0 1 rfl rfl ?_
  refine x_geti C fl_J2_48 (Or.inl rfl) dJ2_size_1 4 rfl h.1 h.2.1 ?_
  exact x_iret C dJ2_size_4 (Nat.le_refl _) (Nat.le_refl _) ⟨rfl, rfl, rfl, rfl⟩
theorem kX1_townOf (hR : CoR K S I T) (hI : Tok T) (hL : LsOk T) {t k : Int32} : Ct w l yX1_townOf cX1_townOf 4 (some .int) 3 0 0 [.ref 0, .int t, .int k] S I J (Qe (some (.int (sp_townOf T t k))) S I J) := by
  refine Ct.of [some _, some _, some _, none] rfl (Nat.le_of_ble_eq_true rfl) (by decide) ?_
  intro κ hκ C
  subst hκ
  have hC := cr_S hR
  have hp10 := tk_p2 hI
  have ht6 := tk_t2 hI
  have hg30 := tk_g2 hI
  have hc30 := tk_c2 hI
  have hn500 := tk_n2 hI
  refine x_aloadr_n C dX1_townOf_0 1 rfl rfl ?_
  refine x_iload_n C dX1_townOf_1 2 rfl rfl ?_
  refine x_callV C lk_X1_124 dX1_townOf_2 5 rfl [_] [] rfl rfl hC.1 (Nat.le_of_ble_eq_true rfl) (by decide) (Nat.le_refl _) (Nat.le_refl _) (kX1_isTown hR) ?_
  rintro _ _ _ _ ⟨rfl, rfl, rfl, rfl⟩
  refine x_ifneZ C dX1_townOf_5 8 10 rfl (by decide) (fun h5 => ?_) (fun h5 => ?_)
  · obtain ⟨t, ht, rfl⟩ := to_I hI h5
    have et : nt (nI t) = t := nt_nI (by omega)
    have hct := cr_ct hR ht
    have h506 := hct.2
    refine x_aloadr_n C dX1_townOf_10 11 rfl rfl ?_
    refine x_getr C fl_X1_17 (Or.inr ⟨_, rfl⟩) dX1_townOf_11 14 rfl hC.1 (coR_towns hC) ?_
    refine x_iload_n C dX1_townOf_14 15 rfl rfl ?_
    refine x_aaldr (t := 5) C dX1_townOf_15 16 rfl (coA_towns hC) (by decide) (coN_towns hC) rfl (by omega) (by decide) (ct_elt hR ht) ?_
    refine x_astorer_n C dX1_townOf_16 17 rfl [_, _, _, _] (by decide) rfl rfl ?_
    refine x_iload_n C dX1_townOf_17 18 rfl rfl ?_
    refine x_sw9 C dX1_townOf_18 68 73 78 83 88 93 98 103 117 125 (by decide) (by decide) (fun hs18 => ?_) (fun hs18 => ?_) (fun hs18 => ?_) (fun hs18 => ?_) (fun hs18 => ?_) (fun hs18 => ?_) (fun hs18 => ?_) (fun hs18 => ?_) (fun hs18 => ?_) (fun hs18 => ?_)
    · refine x_aloadr_n C dX1_townOf_68 69 rfl rfl ?_
      refine x_geti C fl_X1_121 (Or.inl rfl) dX1_townOf_69 72 rfl (ct_T hR ht) (ct_nights hR ht) ?_
      exact x_iret C dX1_townOf_72 (Nat.le_refl _) (Nat.le_refl _) (Qe_of (by simp [sp_townOf, nI_lit, bzt, bzf, h5, et, h506, hs18]))
    · refine x_aloadr_n C dX1_townOf_73 74 rfl rfl ?_
      refine x_geti C fl_X1_118 (Or.inl rfl) dX1_townOf_74 77 rfl (ct_T hR ht) (ct_first hR ht) ?_
      exact x_iret C dX1_townOf_77 (Nat.le_refl _) (Nat.le_refl _) (Qe_of (by simp [sp_townOf, nI_lit, bzt, bzf, h5, et, h506, hs18]))
    · refine x_aloadr_n C dX1_townOf_78 79 rfl rfl ?_
      refine x_geti C fl_X1_128 (Or.inl rfl) dX1_townOf_79 82 rfl (ct_T hR ht) (ct_roomMany hR ht) ?_
      exact x_iret C dX1_townOf_82 (Nat.le_refl _) (Nat.le_refl _) (Qe_of (by simp [sp_townOf, nI_lit, bzt, bzf, h5, et, h506, hs18]))
    · refine x_aloadr_n C dX1_townOf_83 84 rfl rfl ?_
      refine x_callV C lk_X1_335 dX1_townOf_84 87 rfl [] [] rfl rfl (ct_T hR ht) (Nat.le_of_ble_eq_true rfl) (by decide) (Nat.le_refl _) (Nat.le_refl _) (kX5_held hR hI ht) ?_
      rintro _ _ _ _ ⟨rfl, rfl, rfl, rfl⟩
      exact x_iret C dX1_townOf_87 (Nat.le_refl _) (Nat.le_refl _) (Qe_of (by simp [sp_townOf, nI_lit, bzt, bzf, h5, et, h506, hs18]))
    · refine x_aloadr_n C dX1_townOf_88 89 rfl rfl ?_
      refine x_callV C lk_X1_339 dX1_townOf_89 92 rfl [] [] rfl rfl (ct_T hR ht) (Nat.le_of_ble_eq_true rfl) (by decide) (Nat.le_refl _) (Nat.le_refl _) (kX5_used hR hI hL ht) ?_
      rintro _ _ _ _ ⟨rfl, rfl, rfl, rfl⟩
      exact x_iret C dX1_townOf_92 (Nat.le_refl _) (Nat.le_refl _) (Qe_of (by simp [sp_townOf, nI_lit, bzt, bzf, h5, et, h506, hs18]))
    · refine x_aloadr_n C dX1_townOf_93 94 rfl rfl ?_
      refine x_callV C lk_X1_344 dX1_townOf_94 97 rfl [] [] rfl rfl (ct_T hR ht) (Nat.le_of_ble_eq_true rfl) (by decide) (Nat.le_refl _) (Nat.le_refl _) (kX5_people hR hI hL ht) ?_
      rintro _ _ _ _ ⟨rfl, rfl, rfl, rfl⟩
      exact x_iret C dX1_townOf_97 (Nat.le_refl _) (Nat.le_refl _) (Qe_of (by simp [sp_townOf, nI_lit, bzt, bzf, h5, et, h506, hs18]))
    · refine x_aloadr_n C dX1_townOf_98 99 rfl rfl ?_
      refine x_callV C lk_X1_265 dX1_townOf_99 102 rfl [] [] rfl rfl (ct_T hR ht) (Nat.le_of_ble_eq_true rfl) (by decide) (Nat.le_refl _) (Nat.le_refl _) (kX5_cost hR hI hL ht) ?_
      rintro _ _ _ _ ⟨rfl, rfl, rfl, rfl⟩
      exact x_iret C dX1_townOf_102 (Nat.le_refl _) (Nat.le_refl _) (Qe_of (by simp [sp_townOf, nI_lit, bzt, bzf, h5, et, h506, hs18]))
    · refine x_aloadr_n C dX1_townOf_103 104 rfl rfl ?_
      refine x_iload_n C dX1_townOf_104 105 rfl rfl ?_
      refine x_callV C lk_X1_157 dX1_townOf_105 108 rfl [_] [] rfl rfl hC.1 (Nat.le_of_ble_eq_true rfl) (by decide) (Nat.le_refl _) (Nat.le_refl _) (kX1_isOver hR hI ht) ?_
      rintro _ _ _ _ ⟨rfl, rfl, rfl, rfl⟩
      refine x_ifeqZ C dX1_townOf_108 111 115 rfl (by decide) (fun h108 => ?_) (fun h108 => ?_)
      · refine x_ic (j := 0) C dX1_townOf_115 116 rfl ?_
        exact x_iret C dX1_townOf_116 (Nat.le_refl _) (Nat.le_refl _) (Qe_of (by simp [sp_townOf, nI_lit, bzt, bzf, h5, et, h506, hs18, h108]))
      · refine x_ic (j := 1) C dX1_townOf_111 112 rfl ?_
        refine x_goto C dX1_townOf_112 116 (by decide) ?_
        exact x_iret C dX1_townOf_116 (Nat.le_refl _) (Nat.le_refl _) (Qe_of (by simp [sp_townOf, nI_lit, bzt, bzf, h5, et, h506, hs18, h108]))
    · refine x_aloadr_n C dX1_townOf_117 118 rfl rfl ?_
      refine x_getr C fl_X1_291 (Or.inl ⟨_, rfl⟩) dX1_townOf_118 121 rfl (ct_T hR ht) (ct_contract hR ht) ?_
      refine x_callV C lk_X1_300 dX1_townOf_121 124 rfl [] [] rfl rfl hct.1.1 (Nat.le_of_ble_eq_true rfl) (by decide) (Nat.le_refl _) (Nat.le_refl _) (kJ2_size hct.1) ?_
      rintro _ _ _ _ ⟨rfl, rfl, rfl, rfl⟩
      exact x_iret C dX1_townOf_124 (Nat.le_refl _) (Nat.le_refl _) (Qe_of (by simp [sp_townOf, nI_lit, bzt, bzf, h5, et, h506, hs18]))
    · refine x_icm C dX1_townOf_125 126 rfl ?_
      exact x_iret C dX1_townOf_126 (Nat.le_refl _) (Nat.le_refl _) (Qe_of (by simp [sp_townOf, nI_lit, bzt, bzf, h5, et, h506, hs18]))
  · refine x_icm C dX1_townOf_8 9 rfl ?_
    exact x_iret C dX1_townOf_9 (Nat.le_refl _) (Nat.le_refl _) (Qe_of (by simp [sp_townOf, nI_lit, bzt, bzf, h5]))
theorem kX1_roomOf (hR : CoR K S I T) (hI : Tok T) (hL : LsOk T) {t r k : Int32} : Ct w l yX1_roomOf cX1_roomOf 5 (some .int) 4 0 0 [.ref 0, .int t, .int r, .int k] S I J (Qe (some (.int (sp_roomOf T t r k))) S I J) := by
  refine Ct.of [some _, some _, some _, some _, none] rfl (Nat.le_of_ble_eq_true rfl) (by decide) ?_
  intro κ hκ C
  subst hκ
  have hC := cr_S hR
  have hp10 := tk_p2 hI
  have ht6 := tk_t2 hI
  have hg30 := tk_g2 hI
  have hc30 := tk_c2 hI
  have hn500 := tk_n2 hI
  refine x_aloadr_n C dX1_roomOf_0 1 rfl rfl ?_
  refine x_iload_n C dX1_roomOf_1 2 rfl rfl ?_
  refine x_iload_n C dX1_roomOf_2 3 rfl rfl ?_
  refine x_callV C lk_X1_222 dX1_roomOf_3 6 rfl [_, _] [] rfl rfl hC.1 (Nat.le_of_ble_eq_true rfl) (by decide) (Nat.le_refl _) (Nat.le_refl _) (kX1_isRoom hR hI) ?_
  rintro _ _ _ _ ⟨rfl, rfl, rfl, rfl⟩
  refine x_ifneZ C dX1_roomOf_6 9 11 rfl (by decide) (fun h6 => ?_) (fun h6 => ?_)
  · have h6' := h6
    rw [Bool.and_eq_true] at h6'
    obtain ⟨t, ht, rfl⟩ := to_I hI h6'.1
    have et : nt (nI t) = t := nt_nI (by omega)
    have hrn := tk_r2 hI (show t < 6 by omega)
    rw [et] at h6'
    obtain ⟨r, hr, rfl⟩ := in_of (m := rn T t) (by rw [← tk_r hI (by omega)]; exact h6'.2) (by omega)
    have er : nt (nI r) = r := nt_nI (by omega)
    refine x_aloadr_n C dX1_roomOf_11 12 rfl rfl ?_
    refine x_getr C fl_X1_17 (Or.inr ⟨_, rfl⟩) dX1_roomOf_12 15 rfl hC.1 (coR_towns hC) ?_
    refine x_iload_n C dX1_roomOf_15 16 rfl rfl ?_
    refine x_aaldr (t := 5) C dX1_roomOf_16 17 rfl (coA_towns hC) (by decide) (coN_towns hC) rfl (by omega) (by decide) (ct_elt hR ht) ?_
    refine x_getr C fl_X1_187 (Or.inr ⟨_, rfl⟩) dX1_roomOf_17 20 rfl (ct_T hR ht) (ct_rooms hR ht) ?_
    refine x_iload_n C dX1_roomOf_20 21 rfl rfl ?_
    refine x_aaldr (t := 6) C dX1_roomOf_21 22 rfl (ct_roomsA hR ht) (by decide) (ct_roomsN hR ht) rfl (by omega) (by decide) (cm_elt hR ht hr) ?_
    refine x_astorer C dX1_roomOf_22 24 rfl [_, _, _, _, _] (by decide) rfl rfl ?_
    refine x_iload_n C dX1_roomOf_24 25 rfl rfl ?_
    refine x_sw5 C dX1_roomOf_25 60 66 80 86 100 111 (by decide) (by decide) (fun hs25 => ?_) (fun hs25 => ?_) (fun hs25 => ?_) (fun hs25 => ?_) (fun hs25 => ?_) (fun hs25 => ?_)
    · refine x_aloadr C dX1_roomOf_60 62 rfl rfl ?_
      refine x_geti C fl_X1_205 (Or.inl rfl) dX1_roomOf_62 65 rfl (cm_T hR ht hr) (cm_beds hR ht hr) ?_
      exact x_iret C dX1_roomOf_65 (Nat.le_refl _) (Nat.le_refl _) (Qe_of (by unfold sp_roomOf; rw [if_pos h6]; simp [et, er, nI_lit, bzt, bzf, hs25]))
    · refine x_aloadr C dX1_roomOf_66 68 rfl rfl ?_
      refine x_geti C fl_X1_214 (Or.inr (Or.inl rfl)) dX1_roomOf_68 71 rfl (cm_T hR ht hr) (cm_low hR ht hr) ?_
      refine x_ifeq C dX1_roomOf_71 74 78 rfl (by decide) (fun h71 => ?_) (fun h71 => ?_)
      · refine x_ic (j := 0) C dX1_roomOf_78 79 rfl ?_
        exact x_iret C dX1_roomOf_79 (Nat.le_refl _) (Nat.le_refl _) (Qe_of (by unfold sp_roomOf; rw [if_pos h6]; simp [et, er, nI_lit, bzt, bzf, hs25, h71]))
      · refine x_ic (j := 1) C dX1_roomOf_74 75 rfl ?_
        refine x_goto C dX1_roomOf_75 79 (by decide) ?_
        exact x_iret C dX1_roomOf_79 (Nat.le_refl _) (Nat.le_refl _) (Qe_of (by unfold sp_roomOf; rw [if_pos h6]; simp [et, er, nI_lit, bzt, bzf, hs25, h71]))
    · refine x_aloadr C dX1_roomOf_80 82 rfl rfl ?_
      refine x_geti C fl_X1_235 (Or.inl rfl) dX1_roomOf_82 85 rfl (cm_T hR ht hr) (cm_price hR ht hr) ?_
      exact x_iret C dX1_roomOf_85 (Nat.le_refl _) (Nat.le_refl _) (Qe_of (by unfold sp_roomOf; rw [if_pos h6]; simp [et, er, nI_lit, bzt, bzf, hs25]))
    · refine x_aloadr C dX1_roomOf_86 88 rfl rfl ?_
      refine x_geti C fl_X1_196 (Or.inr (Or.inl rfl)) dX1_roomOf_88 91 rfl (cm_T hR ht hr) (cm_held hR ht hr) ?_
      refine x_ifeq C dX1_roomOf_91 94 98 rfl (by decide) (fun h91 => ?_) (fun h91 => ?_)
      · refine x_ic (j := 0) C dX1_roomOf_98 99 rfl ?_
        exact x_iret C dX1_roomOf_99 (Nat.le_refl _) (Nat.le_refl _) (Qe_of (by unfold sp_roomOf; rw [if_pos h6]; simp [et, er, nI_lit, bzt, bzf, hs25, h91]))
      · refine x_ic (j := 1) C dX1_roomOf_94 95 rfl ?_
        refine x_goto C dX1_roomOf_95 99 (by decide) ?_
        exact x_iret C dX1_roomOf_99 (Nat.le_refl _) (Nat.le_refl _) (Qe_of (by unfold sp_roomOf; rw [if_pos h6]; simp [et, er, nI_lit, bzt, bzf, hs25, h91]))
    · refine x_aloadr_n C dX1_roomOf_100 101 rfl rfl ?_
      refine x_getr C fl_X1_17 (Or.inr ⟨_, rfl⟩) dX1_roomOf_101 104 rfl hC.1 (coR_towns hC) ?_
      refine x_iload_n C dX1_roomOf_104 105 rfl rfl ?_
      refine x_aaldr (t := 5) C dX1_roomOf_105 106 rfl (coA_towns hC) (by decide) (coN_towns hC) rfl (by omega) (by decide) (ct_elt hR ht) ?_
      refine x_iload_n C dX1_roomOf_106 107 rfl rfl ?_
      refine x_callV C lk_X1_226 dX1_roomOf_107 110 rfl [_] [] rfl rfl (ct_T hR ht) (Nat.le_of_ble_eq_true rfl) (by decide) (Nat.le_refl _) (Nat.le_refl _) (kX5_inside hR hI hL ht (by omega)) ?_
      rintro _ _ _ _ ⟨rfl, rfl, rfl, rfl⟩
      exact x_iret C dX1_roomOf_110 (Nat.le_refl _) (Nat.le_refl _) (Qe_of (by unfold sp_roomOf; rw [if_pos h6]; simp [et, er, nI_lit, bzt, bzf, hs25]))
    · refine x_icm C dX1_roomOf_111 112 rfl ?_
      exact x_iret C dX1_roomOf_112 (Nat.le_refl _) (Nat.le_refl _) (Qe_of (by unfold sp_roomOf; rw [if_pos h6]; simp [et, er, nI_lit, bzt, bzf, hs25]))
  · refine x_icm C dX1_roomOf_9 10 rfl ?_
    exact x_iret C dX1_roomOf_10 (Nat.le_refl _) (Nat.le_refl _) (Qe_of (by unfold sp_roomOf; rw [if_neg (by rw [h6]; decide)]))
theorem kX1_personOf (hR : CoR K S I T) (hI : Tok T) (hF : FrOk T) {p k : Int32} : Ct w l yX1_personOf cX1_personOf 6 (some .int) 3 0 0 [.ref 0, .int p, .int k] S I J (Qe (some (.int (sp_personOf T p k))) S I J) := by
  refine Ct.of [some _, some _, some _, none, none, none] rfl (Nat.le_of_ble_eq_true rfl) (by decide) ?_
  intro κ hκ C
  subst hκ
  have hC := cr_S hR
  have hp10 := tk_p2 hI
  have ht6 := tk_t2 hI
  have hg30 := tk_g2 hI
  have hc30 := tk_c2 hI
  have hn500 := tk_n2 hI
  refine x_aloadr_n C dX1_personOf_0 1 rfl rfl ?_
  refine x_iload_n C dX1_personOf_1 2 rfl rfl ?_
  refine x_callV C lk_X1_134 dX1_personOf_2 5 rfl [_] [] rfl rfl hC.1 (Nat.le_of_ble_eq_true rfl) (by decide) (Nat.le_refl _) (Nat.le_refl _) (kX1_isPerson hR) ?_
  rintro _ _ _ _ ⟨rfl, rfl, rfl, rfl⟩
  refine x_ifneZ C dX1_personOf_5 8 10 rfl (by decide) (fun h5 => ?_) (fun h5 => ?_)
  · obtain ⟨p, hp, rfl⟩ := pe_I hI h5
    have ep : nt (nI p) = p := nt_nI (by omega)
    refine x_aloadr_n C dX1_personOf_10 11 rfl rfl ?_
    refine x_getr C fl_X1_11 (Or.inr ⟨_, rfl⟩) dX1_personOf_11 14 rfl hC.1 (coR_people hC) ?_
    refine x_iload_n C dX1_personOf_14 15 rfl rfl ?_
    refine x_aaldr (t := 4) C dX1_personOf_15 16 rfl (coA_people hC) (by decide) (coN_people hC) rfl (by omega) (by decide) (cp_elt hR hp) ?_
    refine x_astorer_n C dX1_personOf_16 17 rfl [_, _, _, _, _, _] (by decide) rfl rfl ?_
    refine x_iload_n C dX1_personOf_17 18 rfl rfl ?_
    refine x_sw9 C dX1_personOf_18 68 81 86 99 104 109 114 127 146 213 (by decide) (by decide) (fun hs18 => ?_) (fun hs18 => ?_) (fun hs18 => ?_) (fun hs18 => ?_) (fun hs18 => ?_) (fun hs18 => ?_) (fun hs18 => ?_) (fun hs18 => ?_) (fun hs18 => ?_) (fun hs18 => ?_)
    · refine x_aloadr_n C dX1_personOf_68 69 rfl rfl ?_
      refine x_geti C fl_X1_419 (Or.inr (Or.inl rfl)) dX1_personOf_69 72 rfl (cp_T hR hp) (cp_shares hR hp) ?_
      refine x_ifeq C dX1_personOf_72 75 79 rfl (by decide) (fun h72 => ?_) (fun h72 => ?_)
      · refine x_ic (j := 0) C dX1_personOf_79 80 rfl ?_
        exact x_iret C dX1_personOf_80 (Nat.le_refl _) (Nat.le_refl _) (Qe_of (by simp [sp_personOf, nI_lit, bzt, bzf, h5, ep, hs18, h72]))
      · refine x_ic (j := 1) C dX1_personOf_75 76 rfl ?_
        refine x_goto C dX1_personOf_76 80 (by decide) ?_
        exact x_iret C dX1_personOf_80 (Nat.le_refl _) (Nat.le_refl _) (Qe_of (by simp [sp_personOf, nI_lit, bzt, bzf, h5, ep, hs18, h72]))
    · refine x_aloadr_n C dX1_personOf_81 82 rfl rfl ?_
      refine x_geti C fl_X1_422 (Or.inl rfl) dX1_personOf_82 85 rfl (cp_T hR hp) (cp_sort hR hp) ?_
      exact x_iret C dX1_personOf_85 (Nat.le_refl _) (Nat.le_refl _) (Qe_of (by simp [sp_personOf, nI_lit, bzt, bzf, h5, ep, hs18]))
    · refine x_aloadr_n C dX1_personOf_86 87 rfl rfl ?_
      refine x_geti C fl_X1_211 (Or.inr (Or.inl rfl)) dX1_personOf_87 90 rfl (cp_T hR hp) (cp_low hR hp) ?_
      refine x_ifeq C dX1_personOf_90 93 97 rfl (by decide) (fun h90 => ?_) (fun h90 => ?_)
      · refine x_ic (j := 0) C dX1_personOf_97 98 rfl ?_
        exact x_iret C dX1_personOf_98 (Nat.le_refl _) (Nat.le_refl _) (Qe_of (by simp [sp_personOf, nI_lit, bzt, bzf, h5, ep, hs18, h90]))
      · refine x_ic (j := 1) C dX1_personOf_93 94 rfl ?_
        refine x_goto C dX1_personOf_94 98 (by decide) ?_
        exact x_iret C dX1_personOf_98 (Nat.le_refl _) (Nat.le_refl _) (Qe_of (by simp [sp_personOf, nI_lit, bzt, bzf, h5, ep, hs18, h90]))
    · refine x_aloadr_n C dX1_personOf_99 100 rfl rfl ?_
      refine x_geti C fl_X1_416 (Or.inl rfl) dX1_personOf_100 103 rfl (cp_T hR hp) (cp_diet hR hp) ?_
      exact x_iret C dX1_personOf_103 (Nat.le_refl _) (Nat.le_refl _) (Qe_of (by simp [sp_personOf, nI_lit, bzt, bzf, h5, ep, hs18]))
    · refine x_aloadr_n C dX1_personOf_104 105 rfl rfl ?_
      refine x_geti C fl_X1_172 (Or.inl rfl) dX1_personOf_105 108 rfl (cp_T hR hp) (cp_from hR hp) ?_
      exact x_iret C dX1_personOf_108 (Nat.le_refl _) (Nat.le_refl _) (Qe_of (by simp [sp_personOf, nI_lit, bzt, bzf, h5, ep, hs18]))
    · refine x_aloadr_n C dX1_personOf_109 110 rfl rfl ?_
      refine x_geti C fl_X1_175 (Or.inl rfl) dX1_personOf_110 113 rfl (cp_T hR hp) (cp_to hR hp) ?_
      exact x_iret C dX1_personOf_113 (Nat.le_refl _) (Nat.le_refl _) (Qe_of (by simp [sp_personOf, nI_lit, bzt, bzf, h5, ep, hs18]))
    · refine x_aloadr_n C dX1_personOf_114 115 rfl rfl ?_
      refine x_geti C fl_X1_137 (Or.inr (Or.inl rfl)) dX1_personOf_115 118 rfl (cp_T hR hp) (cp_isGone hR hp) ?_
      refine x_ifeq C dX1_personOf_118 121 125 rfl (by decide) (fun h118 => ?_) (fun h118 => ?_)
      · refine x_ic (j := 0) C dX1_personOf_125 126 rfl ?_
        exact x_iret C dX1_personOf_126 (Nat.le_refl _) (Nat.le_refl _) (Qe_of (by simp [sp_personOf, nI_lit, bzt, bzf, h5, ep, hs18, h118]))
      · refine x_ic (j := 1) C dX1_personOf_121 122 rfl ?_
        refine x_goto C dX1_personOf_122 126 (by decide) ?_
        exact x_iret C dX1_personOf_126 (Nat.le_refl _) (Nat.le_refl _) (Qe_of (by simp [sp_personOf, nI_lit, bzt, bzf, h5, ep, hs18, h118]))
    · refine x_aloadr_n C dX1_personOf_127 128 rfl rfl ?_
      refine x_getq C fl_X1_141 (Or.inl ⟨_, rfl⟩) dX1_personOf_128 131 rfl (cp_T hR hp) (cp_friend hR hp) ?_
      refine x_ifnonnull C dX1_personOf_131 134 138 rfl (by decide) (fun b131 h131 => ?_) (fun h131 => ?_)
      · have hne : ¬ T 481 p = -1 := fun q => by rw [fr_none.mpr q] at h131; cases h131
        obtain ⟨q, hq, eq, -⟩ := (hF p hp).resolve_left hne
        have efr : frR K T p = some (pa K q) := (fr_eq hR hI hF hp hq).mpr eq
        refine x_aloadr_n C dX1_personOf_138 139 rfl rfl ?_
        refine x_getr C fl_X1_141 (Or.inl ⟨_, rfl⟩) dX1_personOf_139 142 rfl (cp_T hR hp) ((cp_friend hR hp).trans efr) ?_
        refine x_geti C fl_X1_425 (Or.inl rfl) dX1_personOf_142 145 rfl (cp_T hR hq) (cp_number hR hq) ?_
        exact x_iret C dX1_personOf_145 (Nat.le_refl _) (Nat.le_refl _) (Qe_of (by simp [sp_personOf, nI_lit, h5, ep, hs18, eq]))
      · have e131 := fr_none.mp h131
        refine x_icm C dX1_personOf_134 135 rfl ?_
        refine x_goto C dX1_personOf_135 145 (by decide) ?_
        exact x_iret C dX1_personOf_145 (Nat.le_refl _) (Nat.le_refl _) (Qe_of (by simp [sp_personOf, nI_lit, bzt, bzf, h5, ep, hs18, e131]))
    · refine x_ic (j := 0) C dX1_personOf_146 147 rfl ?_
      refine x_istore C dX1_personOf_147 149 rfl [_, _, _, _, _, _] (by decide) rfl rfl ?_
      refine x_ic (j := 0) C dX1_personOf_149 150 rfl ?_
      refine x_istore C dX1_personOf_150 152 rfl [_, _, _, _, _, _] (by decide) rfl rfl ?_
      have hloop152 : ∀ (j q : Nat) (c : Nat), q + j = (pn T) → c = cnt (shP T p) q → XX w κ (Zr w κ (Qe (some (.int (sp_personOf T (nI p) k))) S I J)) 0 0 152 [some (.ref 0), some (.int (nI p)), some (.int k), some (.ref (pa K p)), some (.int (nI c)), some (.int (nI q))] [] S I J := by
        intro j
        induction j with
        | zero =>
          intro q c e152 h_c
          have e152 : (pn T) = q := Eq.symm e152
          subst e152
          subst h_c
          refine x_iload C dX1_personOf_152 154 rfl rfl ?_
          refine x_aloadr_n C dX1_personOf_154 155 rfl rfl ?_
          refine x_geti C fl_X1_105 (Or.inl rfl) dX1_personOf_155 158 rfl hC.1 ((cs_peopleMany hR).trans (tk_p (I := T) hI)) ?_
          refine x_icmpgeN C dX1_personOf_158 161 210 rfl (by decide) (by omega) (by omega) (fun _ => ?_) (fun h158 => absurd h158 (by omega))
          refine x_iload C dX1_personOf_210 212 rfl rfl ?_
          exact x_iret C dX1_personOf_212 (Nat.le_refl _) (Nat.le_refl _) (Qe_of (by simp [sp_personOf, nI_lit, bzt, bzf, h5, ep, hs18]))
        | succ j ih152 =>
          intro q c e152 h_c
          have hqq : q < pn T := by omega
          refine x_iload C dX1_personOf_152 154 rfl rfl ?_
          refine x_aloadr_n C dX1_personOf_154 155 rfl rfl ?_
          refine x_geti C fl_X1_105 (Or.inl rfl) dX1_personOf_155 158 rfl hC.1 ((cs_peopleMany hR).trans (tk_p (I := T) hI)) ?_
          refine x_icmpgeN C dX1_personOf_158 161 210 rfl (by decide) (by omega) (by omega) (fun h158 => absurd h158 (by omega)) (fun _ => ?_)
          refine x_iload C dX1_personOf_161 163 rfl rfl ?_
          refine x_iload C dX1_personOf_163 165 rfl rfl ?_
          refine x_iload_n C dX1_personOf_165 166 rfl rfl ?_
          refine x_icmpeqN C dX1_personOf_166 169 200 rfl (by decide) (by omega) (by omega) (fun h166 => ?_) (fun h166 => ?_)
          · refine x_ic (j := 0) C dX1_personOf_200 201 rfl ?_
            refine x_iadd C dX1_personOf_201 202 rfl (nI_add _ _) ?_
            refine x_istore C dX1_personOf_202 204 rfl [_, _, _, _, _, _] (by decide) rfl rfl ?_
            refine x_iinc C dX1_personOf_204 207 rfl [_, _, _, _, _, _] (nI_inc _) (by decide) rfl rfl rfl ?_
            refine x_goto C dX1_personOf_207 152 (by decide) ?_
            exact (ih152 (q + 1) _ (by omega) (by simp [cnt, shP, h_c, h5, ep, hs18, h166]))
          · refine x_aloadr_n C dX1_personOf_169 170 rfl rfl ?_
            refine x_getr C fl_X1_11 (Or.inr ⟨_, rfl⟩) dX1_personOf_170 173 rfl hC.1 (coR_people hC) ?_
            refine x_iload C dX1_personOf_173 175 rfl rfl ?_
            refine x_aaldr (t := 4) C dX1_personOf_175 176 rfl (coA_people hC) (by decide) (coN_people hC) rfl (by omega) (by decide) (cp_elt hR hqq) ?_
            refine x_geti C fl_X1_137 (Or.inr (Or.inl rfl)) dX1_personOf_176 179 rfl (cp_T hR hqq) (cp_isGone hR hqq) ?_
            refine x_ifne C dX1_personOf_179 182 200 rfl (by decide) (fun h179 => ?_) (fun h179 => ?_)
            · refine x_ic (j := 0) C dX1_personOf_200 201 rfl ?_
              refine x_iadd C dX1_personOf_201 202 rfl (nI_add _ _) ?_
              refine x_istore C dX1_personOf_202 204 rfl [_, _, _, _, _, _] (by decide) rfl rfl ?_
              refine x_iinc C dX1_personOf_204 207 rfl [_, _, _, _, _, _] (nI_inc _) (by decide) rfl rfl rfl ?_
              refine x_goto C dX1_personOf_207 152 (by decide) ?_
              exact (ih152 (q + 1) _ (by omega) (by simp [cnt, shP, h_c, h5, ep, hs18, h166, h179]))
            · refine x_aloadr_n C dX1_personOf_182 183 rfl rfl ?_
              refine x_aloadr_n C dX1_personOf_183 184 rfl rfl ?_
              refine x_getr C fl_X1_11 (Or.inr ⟨_, rfl⟩) dX1_personOf_184 187 rfl hC.1 (coR_people hC) ?_
              refine x_iload C dX1_personOf_187 189 rfl rfl ?_
              refine x_aaldr (t := 4) C dX1_personOf_189 190 rfl (coA_people hC) (by decide) (coN_people hC) rfl (by omega) (by decide) (cp_elt hR hqq) ?_
              refine x_callV C lk_X1_215 dX1_personOf_190 193 rfl [_] [_] rfl rfl (cp_T hR hp) (Nat.le_of_ble_eq_true rfl) (by decide) (Nat.le_refl _) (Nat.le_refl _) (kX4_mayShare hR hI hF hp hqq) ?_
              rintro _ _ _ _ ⟨rfl, rfl, rfl, rfl⟩
              refine x_ifeqZ C dX1_personOf_193 196 200 rfl (by decide) (fun h193 => ?_) (fun h193 => ?_)
              · refine x_ic (j := 0) C dX1_personOf_200 201 rfl ?_
                refine x_iadd C dX1_personOf_201 202 rfl (nI_add _ _) ?_
                refine x_istore C dX1_personOf_202 204 rfl [_, _, _, _, _, _] (by decide) rfl rfl ?_
                refine x_iinc C dX1_personOf_204 207 rfl [_, _, _, _, _, _] (nI_inc _) (by decide) rfl rfl rfl ?_
                refine x_goto C dX1_personOf_207 152 (by decide) ?_
                exact (ih152 (q + 1) _ (by omega) (by simp [cnt, shP, h_c, h5, ep, hs18, h166, h179, h193]))
              · refine x_ic (j := 1) C dX1_personOf_196 197 rfl ?_
                refine x_goto C dX1_personOf_197 201 (by decide) ?_
                refine x_iadd C dX1_personOf_201 202 rfl (nI_add _ _) ?_
                refine x_istore C dX1_personOf_202 204 rfl [_, _, _, _, _, _] (by decide) rfl rfl ?_
                refine x_iinc C dX1_personOf_204 207 rfl [_, _, _, _, _, _] (nI_inc _) (by decide) rfl rfl rfl ?_
                refine x_goto C dX1_personOf_207 152 (by decide) ?_
                exact (ih152 (q + 1) _ (by omega) (by simp [cnt, shP, h_c, h5, ep, hs18, h166, h179, h193]))
      exact hloop152 (pn T) 0 _ (Nat.zero_add _) rfl
    · refine x_icm C dX1_personOf_213 214 rfl ?_
      exact x_iret C dX1_personOf_214 (Nat.le_refl _) (Nat.le_refl _) (Qe_of (by simp [sp_personOf, nI_lit, bzt, bzf, h5, ep, hs18]))
  · refine x_icm C dX1_personOf_8 9 rfl ?_
    exact x_iret C dX1_personOf_9 (Nat.le_refl _) (Nat.le_refl _) (Qe_of (by simp [sp_personOf, nI_lit, bzt, bzf, h5]))
theorem kX1_count (hR : CoR K S I T) {k : Int32} : Ct w l yX1_count cX1_count 2 (some .int) 1 0 0 [.ref 0, .int k] S I J (Qe (some (.int (sp_count T k))) S I J) := by
  have hC := cr_S hR
  refine Ct.of [some _, some _] rfl (Nat.le_of_ble_eq_true rfl) (by decide) ?_
  intro κ hκ C
  subst hκ
  refine x_iload_n C dX1_count_0 1 rfl rfl ?_
  refine x_sw11 C dX1_count_1 60 65 70 75 80 85 90 95 100 105 110 115 (by decide) (by decide) (fun hs1 => ?_) (fun hs1 => ?_) (fun hs1 => ?_) (fun hs1 => ?_) (fun hs1 => ?_) (fun hs1 => ?_) (fun hs1 => ?_) (fun hs1 => ?_) (fun hs1 => ?_) (fun hs1 => ?_) (fun hs1 => ?_) (fun hs1 => ?_)
  · refine x_aloadr_n C dX1_count_60 61 rfl rfl ?_
    refine x_geti C fl_X1_154 (Or.inl rfl) dX1_count_61 64 rfl hC.1 (cs_day hR) ?_
    exact x_iret C dX1_count_64 (Nat.le_refl _) (Nat.le_refl _) (Qe_of (by simp [sp_count, nI_lit, hs1]))
  · refine x_aloadr_n C dX1_count_65 66 rfl rfl ?_
    refine x_geti C fl_X1_21 (Or.inl rfl) dX1_count_66 69 rfl hC.1 (cs_start hR) ?_
    exact x_iret C dX1_count_69 (Nat.le_refl _) (Nat.le_refl _) (Qe_of (by simp [sp_count, nI_lit, hs1]))
  · refine x_aloadr_n C dX1_count_70 71 rfl rfl ?_
    refine x_geti C fl_X1_184 (Or.inl rfl) dX1_count_71 74 rfl hC.1 (cs_season hR) ?_
    exact x_iret C dX1_count_74 (Nat.le_refl _) (Nat.le_refl _) (Qe_of (by simp [sp_count, nI_lit, hs1]))
  · refine x_aloadr_n C dX1_count_75 76 rfl rfl ?_
    refine x_geti C fl_X1_105 (Or.inl rfl) dX1_count_76 79 rfl hC.1 (cs_peopleMany hR) ?_
    exact x_iret C dX1_count_79 (Nat.le_refl _) (Nat.le_refl _) (Qe_of (by simp [sp_count, nI_lit, hs1]))
  · refine x_aloadr_n C dX1_count_80 81 rfl rfl ?_
    refine x_geti C fl_X1_112 (Or.inl rfl) dX1_count_81 84 rfl hC.1 (cs_townMany hR) ?_
    exact x_iret C dX1_count_84 (Nat.le_refl _) (Nat.le_refl _) (Qe_of (by simp [sp_count, nI_lit, hs1]))
  · refine x_aloadr_n C dX1_count_85 86 rfl rfl ?_
    refine x_geti C fl_X1_178 (Or.inl rfl) dX1_count_86 89 rfl hC.1 (cs_nightMany hR) ?_
    exact x_iret C dX1_count_89 (Nat.le_refl _) (Nat.le_refl _) (Qe_of (by simp [sp_count, nI_lit, hs1]))
  · refine x_aloadr_n C dX1_count_90 91 rfl rfl ?_
    refine x_geti C fl_X1_115 (Or.inl rfl) dX1_count_91 94 rfl hC.1 (cs_closed hR) ?_
    exact x_iret C dX1_count_94 (Nat.le_refl _) (Nat.le_refl _) (Qe_of (by simp [sp_count, nI_lit, hs1]))
  · refine x_aloadr_n C dX1_count_95 96 rfl rfl ?_
    refine x_geti C fl_X1_357 (Or.inl rfl) dX1_count_96 99 rfl hC.1 (cs_spent hR) ?_
    exact x_iret C dX1_count_99 (Nat.le_refl _) (Nat.le_refl _) (Qe_of (by simp [sp_count, nI_lit, hs1]))
  · refine x_aloadr_n C dX1_count_100 101 rfl rfl ?_
    refine x_geti C fl_X1_279 (Or.inl rfl) dX1_count_101 104 rfl hC.1 (cs_taped hR) ?_
    exact x_iret C dX1_count_104 (Nat.le_refl _) (Nat.le_refl _) (Qe_of (by simp [sp_count, nI_lit, hs1]))
  · refine x_aloadr_n C dX1_count_105 106 rfl rfl ?_
    refine x_geti C fl_X1_382 (Or.inl rfl) dX1_count_106 109 rfl hC.1 (cs_sightMany hR) ?_
    exact x_iret C dX1_count_109 (Nat.le_refl _) (Nat.le_refl _) (Qe_of (by simp [sp_count, nI_lit, hs1]))
  · refine x_aloadr_n C dX1_count_110 111 rfl rfl ?_
    refine x_geti C fl_X1_151 (Or.inl rfl) dX1_count_111 114 rfl hC.1 (cs_noteMany hR) ?_
    exact x_iret C dX1_count_114 (Nat.le_refl _) (Nat.le_refl _) (Qe_of (by simp [sp_count, nI_lit, hs1]))
  · refine x_icm C dX1_count_115 116 rfl ?_
    exact x_iret C dX1_count_116 (Nat.le_refl _) (Nat.le_refl _) (Qe_of (by simp [sp_count, nI_lit, hs1]))
theorem kX1_moved (hR : CoR K S I T) : Ct w l yX1_moved cX1_moved 1 (some .int) 1 0 0 [.ref 0] S I J (Qe (some (.int (T 473 37))) S I J) := by
  have hC := cr_S hR
  refine Ct.of [some _] rfl (Nat.le_of_ble_eq_true rfl) (by decide) ?_
  intro κ hκ C
  subst hκ
  refine x_aloadr_n C dX1_moved_0 1 rfl rfl ?_
  refine x_geti C fl_X1_25 (Or.inl rfl) dX1_moved_1 4 rfl hC.1 (cs_moved hR) ?_
  exact x_iret C dX1_moved_4 (Nat.le_refl _) (Nat.le_refl _) ⟨rfl, rfl, rfl, rfl⟩
theorem kX1_isLoss (hR : CoR K S I T) {t d up dw sm : Int32} : Ct w l yX1_isLoss cX1_isLoss 6 (some .boolean) 3 0 0 [.ref 0, .int t, .int d, .int up, .int dw, .int sm] S I J (Qe (some (.int (bz (loB T t d up dw sm)))) S I J) := by
  have hC := cr_S hR
  refine Ct.of [some _, some _, some _, some _, some _, some _] rfl (Nat.le_of_ble_eq_true rfl) (by decide) ?_
  intro κ hκ C
  subst hκ
  refine x_aloadr_n C dX1_isLoss_0 1 rfl rfl ?_
  refine x_iload_n C dX1_isLoss_1 2 rfl rfl ?_
  refine x_callV C lk_X1_124 dX1_isLoss_2 5 rfl [_] [] rfl rfl hC.1 (Nat.le_of_ble_eq_true rfl) (by decide) (Nat.le_refl _) (Nat.le_refl _) (kX1_isTown hR) ?_
  rintro _ _ _ _ ⟨rfl, rfl, rfl, rfl⟩
  refine x_ifeqZ C dX1_isLoss_5 8 53 rfl (by decide) (fun h5 => ?_) (fun h5 => ?_)
  · refine x_ic (j := 0) C dX1_isLoss_53 54 rfl ?_
    exact x_zret C dX1_isLoss_54 (Nat.le_refl _) (Nat.le_refl _) rfl (Qz_of (by simp [loB, bzt, bzf, h5]))
  · refine x_iload_n C dX1_isLoss_8 9 rfl rfl ?_
    refine x_ic (j := 0) C dX1_isLoss_9 10 rfl ?_
    refine x_bip (j := 30) C dX1_isLoss_10 12 rfl (by decide) ?_
    refine x_callS C lk_X1_108 dX1_isLoss_12 15 rfl [_, _, _] [] rfl rfl (Nat.le_of_ble_eq_true rfl) (by decide) (Nat.le_refl _) (Nat.le_refl _) kX1_in ?_
    rintro _ _ _ _ ⟨rfl, rfl, rfl, rfl⟩
    refine x_ifeqZ C dX1_isLoss_15 18 53 rfl (by decide) (fun h15 => ?_) (fun h15 => ?_)
    · refine x_ic (j := 0) C dX1_isLoss_53 54 rfl ?_
      exact x_zret C dX1_isLoss_54 (Nat.le_refl _) (Nat.le_refl _) rfl (Qz_of (by simp [loB, bzt, bzf, h5, h15]))
    · refine x_iload_n C dX1_isLoss_18 19 rfl rfl ?_
      refine x_ic (j := 0) C dX1_isLoss_19 20 rfl ?_
      refine x_ic (j := 3) C dX1_isLoss_20 21 rfl ?_
      refine x_callS C lk_X1_108 dX1_isLoss_21 24 rfl [_, _, _] [] rfl rfl (Nat.le_of_ble_eq_true rfl) (by decide) (Nat.le_refl _) (Nat.le_refl _) kX1_in ?_
      rintro _ _ _ _ ⟨rfl, rfl, rfl, rfl⟩
      refine x_ifeqZ C dX1_isLoss_24 27 53 rfl (by decide) (fun h24 => ?_) (fun h24 => ?_)
      · refine x_ic (j := 0) C dX1_isLoss_53 54 rfl ?_
        exact x_zret C dX1_isLoss_54 (Nat.le_refl _) (Nat.le_refl _) rfl (Qz_of (by simp [loB, bzt, bzf, h5, h15, h24]))
      · refine x_iload C dX1_isLoss_27 29 rfl rfl ?_
        refine x_ic (j := 0) C dX1_isLoss_29 30 rfl ?_
        refine x_ic (j := 3) C dX1_isLoss_30 31 rfl ?_
        refine x_callS C lk_X1_108 dX1_isLoss_31 34 rfl [_, _, _] [] rfl rfl (Nat.le_of_ble_eq_true rfl) (by decide) (Nat.le_refl _) (Nat.le_refl _) kX1_in ?_
        rintro _ _ _ _ ⟨rfl, rfl, rfl, rfl⟩
        refine x_ifeqZ C dX1_isLoss_34 37 53 rfl (by decide) (fun h34 => ?_) (fun h34 => ?_)
        · refine x_ic (j := 0) C dX1_isLoss_53 54 rfl ?_
          exact x_zret C dX1_isLoss_54 (Nat.le_refl _) (Nat.le_refl _) rfl (Qz_of (by simp [loB, bzt, bzf, h5, h15, h24, h34]))
        · refine x_iload C dX1_isLoss_37 39 rfl rfl ?_
          refine x_ic (j := 0) C dX1_isLoss_39 40 rfl ?_
          refine x_sip (j := 1000) C dX1_isLoss_40 43 rfl (by decide) ?_
          refine x_callS C lk_X1_108 dX1_isLoss_43 46 rfl [_, _, _] [] rfl rfl (Nat.le_of_ble_eq_true rfl) (by decide) (Nat.le_refl _) (Nat.le_refl _) kX1_in ?_
          rintro _ _ _ _ ⟨rfl, rfl, rfl, rfl⟩
          refine x_ifeqZ C dX1_isLoss_46 49 53 rfl (by decide) (fun h46 => ?_) (fun h46 => ?_)
          · refine x_ic (j := 0) C dX1_isLoss_53 54 rfl ?_
            exact x_zret C dX1_isLoss_54 (Nat.le_refl _) (Nat.le_refl _) rfl (Qz_of (by simp [loB, bzt, bzf, h5, h15, h24, h34, h46]))
          · refine x_ic (j := 1) C dX1_isLoss_49 50 rfl ?_
            refine x_goto C dX1_isLoss_50 54 (by decide) ?_
            exact x_zret C dX1_isLoss_54 (Nat.le_refl _) (Nat.le_refl _) rfl (Qz_of (by simp [loB, bzt, bzf, h5, h15, h24, h34, h46]))
theorem kX1_listed (hR : CoR K S I T) (hI : Tok T) {t p d : Int32} : Ct w l yX1_listed cX1_listed 5 (some .int) 3 0 0 [.ref 0, .int t, .int p, .int d] S I J (Qe (some (.int (sp_listed T t p d))) S I J) := by
  refine Ct.of [some _, some _, some _, some _, none] rfl (Nat.le_of_ble_eq_true rfl) (by decide) ?_
  intro κ hκ C
  subst hκ
  have hC := cr_S hR
  have hp10 := tk_p2 hI
  have ht6 := tk_t2 hI
  have hg30 := tk_g2 hI
  have hc30 := tk_c2 hI
  have hn500 := tk_n2 hI
  refine x_aloadr_n C dX1_listed_0 1 rfl rfl ?_
  refine x_iload_n C dX1_listed_1 2 rfl rfl ?_
  refine x_callV C lk_X1_124 dX1_listed_2 5 rfl [_] [] rfl rfl hC.1 (Nat.le_of_ble_eq_true rfl) (by decide) (Nat.le_refl _) (Nat.le_refl _) (kX1_isTown hR) ?_
  rintro _ _ _ _ ⟨rfl, rfl, rfl, rfl⟩
  refine x_ifeqZ C dX1_listed_5 8 28 rfl (by decide) (fun h5 => ?_) (fun h5 => ?_)
  · refine x_icm C dX1_listed_28 29 rfl ?_
    exact x_iret C dX1_listed_29 (Nat.le_refl _) (Nat.le_refl _) (Qe_of (by simp [sp_listed, h5]))
  · refine x_aloadr_n C dX1_listed_8 9 rfl rfl ?_
    refine x_iload_n C dX1_listed_9 10 rfl rfl ?_
    refine x_callV C lk_X1_134 dX1_listed_10 13 rfl [_] [] rfl rfl hC.1 (Nat.le_of_ble_eq_true rfl) (by decide) (Nat.le_refl _) (Nat.le_refl _) (kX1_isPerson hR) ?_
    rintro _ _ _ _ ⟨rfl, rfl, rfl, rfl⟩
    refine x_ifeqZ C dX1_listed_13 16 28 rfl (by decide) (fun h13 => ?_) (fun h13 => ?_)
    · refine x_icm C dX1_listed_28 29 rfl ?_
      exact x_iret C dX1_listed_29 (Nat.le_refl _) (Nat.le_refl _) (Qe_of (by simp [sp_listed, h5, h13]))
    · obtain ⟨t, ht, rfl⟩ := to_I hI h5
      obtain ⟨p, hp, rfl⟩ := pe_I hI h13
      have et : nt (nI t) = t := nt_nI (by omega)
      have ep : nt (nI p) = p := nt_nI (by omega)
      refine x_iload_n C dX1_listed_16 17 rfl rfl ?_
      refine x_ic (j := 0) C dX1_listed_17 18 rfl ?_
      refine x_aloadr_n C dX1_listed_18 19 rfl rfl ?_
      refine x_geti C fl_X1_154 (Or.inl rfl) dX1_listed_19 22 rfl hC.1 (cs_day hR) ?_
      refine x_callS C lk_X1_108 dX1_listed_22 25 rfl [_, _, _] [] rfl rfl (Nat.le_of_ble_eq_true rfl) (by decide) (Nat.le_refl _) (Nat.le_refl _) kX1_in ?_
      rintro _ _ _ _ ⟨rfl, rfl, rfl, rfl⟩
      refine x_ifneZ C dX1_listed_25 28 30 rfl (by decide) (fun h25 => ?_) (fun h25 => ?_)
      · have hsp : sp_listed T (nI t) (nI p) d = lsN T (10 * t + p) d (nn T) := by simp [sp_listed, h5, h13, et, ep, h25]
        rw [hsp]
        have hl : ∀ (k : Nat), k ≤ nn T → lsN T (10 * t + p) d (nn T) = lsN T (10 * t + p) d k → XX w κ (Zr w κ (Qe (some (.int (lsN T (10 * t + p) d (nn T)))) S I J)) 0 0 38 [some (.ref 0), some (.int (nI t)), some (.int (nI p)), some (.int d), some (.int (nI k - nI 1))] [] S I J := by
          intro k
          induction k with
          | zero =>
            intro hk he
            refine x_iload C dX1_listed_38 40 rfl rfl ?_
            refine x_iflt C dX1_listed_40 43 90 rfl (by decide) (fun _ => ?_) (fun h40 => absurd h40 (not_not_intro (by decide)))
            refine x_icm C dX1_listed_90 91 rfl ?_
            exact x_iret C dX1_listed_91 (Nat.le_refl _) (Nat.le_refl _) (Qe_of (by rw [he]; rfl))
          | succ k ih =>
            intro hk he
            obtain ⟨n, hn, e1, e2, e3, e4, e5⟩ := cr_no hR k (by omega)
            rw [pk_sub (by omega), Nat.add_sub_cancel]
            rw [lsN] at he
            refine x_iload C dX1_listed_38 40 rfl rfl ?_
            refine x_iflt C dX1_listed_40 43 90 rfl (by decide) (fun h40 => absurd h40 (nI_pos (by omega))) (fun _ => ?_)
            refine x_aloadr_n C dX1_listed_43 44 rfl rfl ?_
            refine x_getr C fl_X1_28 (Or.inr ⟨_, rfl⟩) dX1_listed_44 47 rfl hC.1 (coR_noteTown hC) ?_
            refine x_iload C dX1_listed_47 49 rfl rfl ?_
            refine x_iald C dX1_listed_49 50 rfl (coA_noteTown hC) (coN_noteTown hC) rfl (by omega) (by decide) e2 ?_
            refine x_iload_n C dX1_listed_50 51 rfl rfl ?_
            refine x_icmpneN C dX1_listed_51 54 84 rfl (by decide) (by omega) (by omega) (fun h51 => ?_) (fun h51 => ?_)
            · refine x_iinc C dX1_listed_84 87 rfl [_, _, _, _, _] (nI_dec _) (by decide) rfl rfl rfl ?_
              refine x_goto C dX1_listed_87 38 (by decide) ?_
              refine ih (by omega) (he.trans (if_neg ?_))
              rintro ⟨q1, q2⟩
              rw [e1, nI_eq (by omega) (by omega)] at q1
              first | (exact h51 (by omega)) | (exact h62 (by omega)) | exact q2 h73
            · refine x_aloadr_n C dX1_listed_54 55 rfl rfl ?_
              refine x_getr C fl_X1_32 (Or.inr ⟨_, rfl⟩) dX1_listed_55 58 rfl hC.1 (coR_notePerson hC) ?_
              refine x_iload C dX1_listed_58 60 rfl rfl ?_
              refine x_iald C dX1_listed_60 61 rfl (coA_notePerson hC) (coN_notePerson hC) rfl (by omega) (by decide) e3 ?_
              refine x_iload_n C dX1_listed_61 62 rfl rfl ?_
              refine x_icmpneN C dX1_listed_62 65 84 rfl (by decide) (by omega) (by omega) (fun h62 => ?_) (fun h62 => ?_)
              · refine x_iinc C dX1_listed_84 87 rfl [_, _, _, _, _] (nI_dec _) (by decide) rfl rfl rfl ?_
                refine x_goto C dX1_listed_87 38 (by decide) ?_
                refine ih (by omega) (he.trans (if_neg ?_))
                rintro ⟨q1, q2⟩
                rw [e1, nI_eq (by omega) (by omega)] at q1
                first | (exact h51 (by omega)) | (exact h62 (by omega)) | exact q2 h73
              · refine x_aloadr_n C dX1_listed_65 66 rfl rfl ?_
                refine x_getr C fl_X1_38 (Or.inr ⟨_, rfl⟩) dX1_listed_66 69 rfl hC.1 (coR_noteDay hC) ?_
                refine x_iload C dX1_listed_69 71 rfl rfl ?_
                refine x_iald C dX1_listed_71 72 rfl (coA_noteDay hC) (coN_noteDay hC) rfl (by omega) (by decide) e5 ?_
                refine x_iload_n C dX1_listed_72 73 rfl rfl ?_
                refine x_icmpgt C dX1_listed_73 76 84 rfl (by decide) (fun h73 => ?_) (fun h73 => ?_)
                · refine x_iinc C dX1_listed_84 87 rfl [_, _, _, _, _] (nI_dec _) (by decide) rfl rfl rfl ?_
                  refine x_goto C dX1_listed_87 38 (by decide) ?_
                  refine ih (by omega) (he.trans (if_neg ?_))
                  rintro ⟨q1, q2⟩
                  rw [e1, nI_eq (by omega) (by omega)] at q1
                  first | (exact h51 (by omega)) | (exact h62 (by omega)) | exact q2 h73
                · refine x_aloadr_n C dX1_listed_76 77 rfl rfl ?_
                  refine x_getr C fl_X1_35 (Or.inr ⟨_, rfl⟩) dX1_listed_77 80 rfl hC.1 (coR_noteRoom hC) ?_
                  refine x_iload C dX1_listed_80 82 rfl rfl ?_
                  refine x_iald C dX1_listed_82 83 rfl (coA_noteRoom hC) (coN_noteRoom hC) rfl (by omega) (by decide) e4 ?_
                  exact x_iret C dX1_listed_83 (Nat.le_refl _) (Nat.le_refl _) (Qe_of (by rw [he, if_pos ⟨by rw [e1, show n = 10 * t + p by omega], h73⟩]))
        refine x_aloadr_n C dX1_listed_30 31 rfl rfl ?_
        refine x_geti C fl_X1_151 (Or.inl rfl) dX1_listed_31 34 rfl hC.1 ((cs_noteMany hR).trans (tk_n (I := T) hI)) ?_
        refine x_ic (j := 1) C dX1_listed_34 35 rfl ?_
        refine x_isub C dX1_listed_35 36 rfl rfl ?_
        refine x_istore C dX1_listed_36 38 rfl [_, _, _, _, _] (by decide) rfl rfl ?_
        exact hl (nn T) (Nat.le_refl _) rfl
      · refine x_icm C dX1_listed_28 29 rfl ?_
        exact x_iret C dX1_listed_29 (Nat.le_refl _) (Nat.le_refl _) (Qe_of (by simp [sp_listed, h5, h13, et, ep, h25]))
end Co4

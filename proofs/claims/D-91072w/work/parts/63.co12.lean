/-! the component: friends, put -/
theorem nI_ltE {a b : Nat} (ha : a < 2 ^ 31) (hb : b < 2 ^ 31) : (nI a < nI b) = (a < b) := propext ⟨fun h => Nat.not_le.mp fun q => absurd h (Int32.not_lt.mpr (nI_le q ha)), fun h => nI_lt h hb⟩
theorem cnt_z {P : Nat → Bool} {n : Nat} (h : ∀ i, i < n → P i = false) : cnt P n = 0 := cnt_hi (m := 0) (Nat.zero_le _) (fun i _ q => h i q)
section
variable {K : Ly} {S : Sh} {I T : Mi}
theorem fr_sym (hI : Tok T) (hF : FrOk T) {a b : Nat} (ha : a < pn T) (hb : b < pn T) (h : T 481 a = nI b) : T 481 b = nI a := by
  have h10 := tk_p2 hI
  rcases hF a ha with q | ⟨j, hj, q1, q2⟩
  · rw [q] at h
    exact absurd h.symm (nI_m1 (by omega))
  · rw [q1] at h
    rw [← (nI_eq (by omega) (by omega)).mp h]
    exact q2
theorem shB_sym (hI : Tok T) (hF : FrOk T) (hB : BrOk T) {a b : Nat} (ha : a < pn T) (hb : b < pn T) : shB T a b = shB T b a := by
  have h10 := tk_p2 hI
  have h1 : decide (T 481 a = nI b) = decide (T 481 b = nI a) := by
    by_cases q : T 481 a = nI b
    · rw [decide_eq_true q, decide_eq_true (fr_sym hI hF ha hb q)]
    · rw [decide_eq_false q, decide_eq_false (fun e => q (fr_sym hI hF hb ha e))]
  have h2 : decide (T 475 a = T 475 b) = decide (T 475 b = T 475 a) := by simp only [eq_comm]
  unfold shB
  rw [h1, h2, (hB a b (by omega) (by omega)).2, Bool.and_comm (decide (¬ T 474 a = 0)), Bool.and_right_comm _ (decide (T 481 a = -1))]
theorem put_jn (hI : Tok T) (hF : FrOk T) (hB : BrOk T) {t p r : Nat} (hbe : bedsOk T t) (ht : t < tn T) (hp : p < pn T) (hr : r < rn T t) : putB T t p (nI r) = jnB T (10 * t + r) (nd (si T (pn T) t (nI r)) (2 ^ p)) p := by
  have h10 := tk_p2 hI
  have hr10 : r < 10 := by have := tk_r2 hI (show t < 6 by have := tk_t2 hI; omega); omega
  have hsl : si T (pn T) t (nI r) < 2 ^ pn T := msk_lt _ _
  have hs2 : nd (si T (pn T) t (nI r)) (2 ^ p) < 2 ^ pn T := nd_lt hsl
  have hs : nd (si T (pn T) t (nI r)) (2 ^ p) < 1024 := nd_lt (n := 10) (si_lt T t _ h10)
  unfold putB jnB
  rw [decide_eq_false (fun e => nI_m1 (show r < 2 ^ 31 by omega) e), nt_nI (by omega), Bool.false_or]
  generalize nd (si T (pn T) t (nI r)) (2 ^ p) = s at *
  have hc : cnt s.testBit (pn T) = cnt s.testBit 10 := (cnt_hi h10 (fun i h1 _ => by
    cases e : s.testBit i with
    | false => rfl
    | true => exact absurd (bit_lt_n hs2 e) (by omega))).symm
  rw [hc]
  by_cases hq : nI (cnt s.testBit 10) < T 486 (10 * t + r)
  · have hC : decide (cnt (ptP T s p) (pn T) = 0) = (decide (s = 0) || shB T p (lo s)) := by
      by_cases h0 : s = 0
      · subst h0
        rw [decide_eq_true (cnt_z (fun i _ => by simp [ptP]))]
        rfl
      · obtain ⟨m, hm, em⟩ := hbe r hr
        rw [em, nI_ltE (by have := cnt_le s.testBit 10; omega) (by omega)] at hq
        have h1 := rs_cnt hs h0
        have h2 : rs s = 0 := (cnt_0n (rs_lt hs)).mp (by omega)
        obtain ⟨l1, l2, l3⟩ := lo_spec hs h0
        have hlo : ∀ i, s.testBit i = true → i = lo s := by
          intro i hi
          have h3 := rs_bit hs h0 i
          rw [h2, hi] at h3
          simpa using h3
        have hll : lo s < pn T := bit_lt_n hs2 l2
        rw [decide_eq_false h0, Bool.false_or, shB_sym hI hF hB hp hll]
        cases e : shB T (lo s) p with
        | true =>
          refine decide_eq_true (cnt_z (fun i _ => ?_))
          unfold ptP
          cases e2 : s.testBit i with
          | false => rfl
          | true => rw [hlo i e2, e]; rfl
        | false => exact decide_eq_false (cnt_ge (p := lo s) (by simp [ptP, l2, e]) hll)
    rw [hC, decide_eq_true hq]
    cases decide (T 489 (10 * t + r) = 0) <;> cases (!decide (T 476 p = 0) && decide (T 487 (10 * t + r) = 0)) <;> simp
  · rw [decide_eq_false hq]
    simp
end
section Co12
variable {w : Wd} {l : Launch} {K : Ly} {S : Sh} {I T : Mi} {J : Ml}
theorem kX1_friends (hR : CoR K S I T) (hI : Tok T) (hF : FrOk T) {a b : Int32} {are : Bool} : Ct w l yX1_friends cX1_friends 6 (some .boolean) 3 0 0 [.ref 0, .int a, .int b, .int (bz are)] S I J (Qp (sp_friends T a b are) S I J 0) := by
  refine Ct.of [some _, some _, some _, some _, none, none] rfl (Nat.le_of_ble_eq_true rfl) (by decide) ?_
  intro κ hκ C
  subst hκ
  have hC := cr_S hR
  have hp10 := tk_p2 hI
  have ht6 := tk_t2 hI
  have hg30 := tk_g2 hI
  have hc30 := tk_c2 hI
  have hn500 := tk_n2 hI
  refine x_aloadr_n C dX1_friends_0 1 rfl rfl ?_
  refine x_iload_n C dX1_friends_1 2 rfl rfl ?_
  refine x_callV C lk_X1_134 dX1_friends_2 5 rfl [_] [] rfl rfl hC.1 (Nat.le_of_ble_eq_true rfl) (by decide) (Nat.le_refl _) (Nat.le_refl _) (kX1_isPerson hR) ?_
  rintro _ _ _ _ ⟨rfl, rfl, rfl, rfl⟩
  refine x_ifeqZ C dX1_friends_5 8 45 rfl (by decide) (fun h5 => ?_) (fun h5 => ?_)
  · refine x_ic (j := 0) C dX1_friends_45 46 rfl ?_
    exact x_zret C dX1_friends_46 (Nat.le_refl _) (Nat.le_refl _) rfl (Qp_n hR (by simp [sp_friends, no0, h5]))
  · refine x_aloadr_n C dX1_friends_8 9 rfl rfl ?_
    refine x_iload_n C dX1_friends_9 10 rfl rfl ?_
    refine x_callV C lk_X1_134 dX1_friends_10 13 rfl [_] [] rfl rfl hC.1 (Nat.le_of_ble_eq_true rfl) (by decide) (Nat.le_refl _) (Nat.le_refl _) (kX1_isPerson hR) ?_
    rintro _ _ _ _ ⟨rfl, rfl, rfl, rfl⟩
    refine x_ifeqZ C dX1_friends_13 16 45 rfl (by decide) (fun h13 => ?_) (fun h13 => ?_)
    · refine x_ic (j := 0) C dX1_friends_45 46 rfl ?_
      exact x_zret C dX1_friends_46 (Nat.le_refl _) (Nat.le_refl _) rfl (Qp_n hR (by simp [sp_friends, no0, h5, h13]))
    · refine x_iload_n C dX1_friends_16 17 rfl rfl ?_
      refine x_iload_n C dX1_friends_17 18 rfl rfl ?_
      refine x_icmpeq C dX1_friends_18 21 45 rfl (by decide) (fun h18 => ?_) (fun h18 => ?_)
      · have e18 := eq_true h18
        refine x_ic (j := 0) C dX1_friends_45 46 rfl ?_
        exact x_zret C dX1_friends_46 (Nat.le_refl _) (Nat.le_refl _) rfl (Qp_n hR (by simp [sp_friends, no0, h18]))
      · obtain ⟨a, ha, rfl⟩ := pe_I hI h5
        obtain ⟨b, hb, rfl⟩ := pe_I hI h13
        have ea : nt (nI a) = a := nt_nI (by omega)
        have eb : nt (nI b) = b := nt_nI (by omega)
        have hne : ¬ a = b := fun e => h18 (by rw [e])
        have h520 := ((cr_ly hR).2.2.2.1 a ha).1
        have h521 := ((cr_ly hR).2.2.2.1 b hb).1
        have hnb : ¬ nI b = -1 := nI_m1 (by omega)
        have hna : ¬ nI a = -1 := nI_m1 (by omega)
        refine x_aloadr_n C dX1_friends_21 22 rfl rfl ?_
        refine x_getr C fl_X1_11 (Or.inr ⟨_, rfl⟩) dX1_friends_22 25 rfl hC.1 (coR_people hC) ?_
        refine x_iload_n C dX1_friends_25 26 rfl rfl ?_
        refine x_aaldr (t := 4) C dX1_friends_26 27 rfl (coA_people hC) (by decide) (coN_people hC) rfl (by omega) (by decide) (cp_elt hR ha) ?_
        refine x_geti C fl_X1_137 (Or.inr (Or.inl rfl)) dX1_friends_27 30 rfl (cp_T hR ha) (cp_isGone hR ha) ?_
        refine x_ifne C dX1_friends_30 33 45 rfl (by decide) (fun h30 => ?_) (fun h30 => ?_)
        · refine x_ic (j := 0) C dX1_friends_45 46 rfl ?_
          exact x_zret C dX1_friends_46 (Nat.le_refl _) (Nat.le_refl _) rfl (Qp_n hR (by simp [sp_friends, no0, h5, h13, h18, ea, eb, h30]))
        · refine x_aloadr_n C dX1_friends_33 34 rfl rfl ?_
          refine x_getr C fl_X1_11 (Or.inr ⟨_, rfl⟩) dX1_friends_34 37 rfl hC.1 (coR_people hC) ?_
          refine x_iload_n C dX1_friends_37 38 rfl rfl ?_
          refine x_aaldr (t := 4) C dX1_friends_38 39 rfl (coA_people hC) (by decide) (coN_people hC) rfl (by omega) (by decide) (cp_elt hR hb) ?_
          refine x_geti C fl_X1_137 (Or.inr (Or.inl rfl)) dX1_friends_39 42 rfl (cp_T hR hb) (cp_isGone hR hb) ?_
          refine x_ifeq C dX1_friends_42 45 47 rfl (by decide) (fun h42 => ?_) (fun h42 => ?_)
          · refine x_aloadr_n C dX1_friends_47 48 rfl rfl ?_
            refine x_getr C fl_X1_11 (Or.inr ⟨_, rfl⟩) dX1_friends_48 51 rfl hC.1 (coR_people hC) ?_
            refine x_iload_n C dX1_friends_51 52 rfl rfl ?_
            refine x_aaldr (t := 4) C dX1_friends_52 53 rfl (coA_people hC) (by decide) (coN_people hC) rfl (by omega) (by decide) (cp_elt hR ha) ?_
            refine x_astorer C dX1_friends_53 55 rfl [_, _, _, _, _, _] (by decide) rfl rfl ?_
            refine x_aloadr_n C dX1_friends_55 56 rfl rfl ?_
            refine x_getr C fl_X1_11 (Or.inr ⟨_, rfl⟩) dX1_friends_56 59 rfl hC.1 (coR_people hC) ?_
            refine x_iload_n C dX1_friends_59 60 rfl rfl ?_
            refine x_aaldr (t := 4) C dX1_friends_60 61 rfl (coA_people hC) (by decide) (coN_people hC) rfl (by omega) (by decide) (cp_elt hR hb) ?_
            refine x_astorer C dX1_friends_61 63 rfl [_, _, _, _, _, _] (by decide) rfl rfl ?_
            cases are with
            | true =>
              refine x_iload_n C dX1_friends_63 64 rfl rfl ?_
              refine x_ifeqZ C dX1_friends_64 67 86 rfl (by decide) (fun h64 => absurd h64 (by decide)) (fun _ => ?_)
              refine x_aloadr C dX1_friends_67 69 rfl rfl ?_
              refine x_getq C fl_X1_141 (Or.inl ⟨_, rfl⟩) dX1_friends_69 72 rfl (cp_T hR ha) (cp_friend hR ha) ?_
              refine x_ifnonnull C dX1_friends_72 75 96 rfl (by decide) (fun b72 h72 => ?_) (fun h72 => ?_)
              · have e72 : ¬ T 481 a = -1 := fun q => by { rw [fr_none.mpr q] at h72; cases h72 }
                refine x_ic (j := 0) C dX1_friends_96 97 rfl ?_
                exact x_zret C dX1_friends_97 (Nat.le_refl _) (Nat.le_refl _) rfl (Qp_n hR (by simp [sp_friends, no0, h5, h13, h18, ea, eb, h30, h42, e72]))
              · have e72 := eq_true (fr_none.mp h72)
                refine x_aloadr C dX1_friends_75 77 rfl rfl ?_
                refine x_getq C fl_X1_141 (Or.inl ⟨_, rfl⟩) dX1_friends_77 80 rfl (cp_T hR hb) (cp_friend hR hb) ?_
                refine x_ifnull C dX1_friends_80 83 98 rfl (by decide) (fun h80 => ?_) (fun b80 h80 => ?_)
                · have e80 := eq_true (fr_none.mp h80)
                  refine x_aloadr C dX1_friends_98 100 rfl rfl ?_
                  refine x_iload_n C dX1_friends_100 101 rfl rfl ?_
                  refine x_ifeqZ C dX1_friends_101 104 109 rfl (by decide) (fun h101 => absurd h101 (by decide)) (fun _ => ?_)
                  refine x_aloadr C dX1_friends_104 106 rfl rfl ?_
                  refine x_goto C dX1_friends_106 110 (by decide) ?_
                  refine x_putr C fl_X1_141 (Or.inl ⟨_, rfl⟩) (Or.inl rfl) dX1_friends_110 113 rfl (cp_T hR ha) ?_
                  refine x_aloadr C dX1_friends_113 115 rfl rfl ?_
                  refine x_iload_n C dX1_friends_115 116 rfl rfl ?_
                  refine x_ifeqZ C dX1_friends_116 119 124 rfl (by decide) (fun h116 => absurd h116 (by decide)) (fun _ => ?_)
                  refine x_aloadr C dX1_friends_119 121 rfl rfl ?_
                  refine x_goto C dX1_friends_121 125 (by decide) ?_
                  refine x_putr C fl_X1_141 (Or.inl ⟨_, rfl⟩) (Or.inl rfl) dX1_friends_125 128 rfl (cp_T hR hb) ?_
                  refine x_ic (j := 1) C dX1_friends_128 129 rfl ?_
                  exact x_zret C dX1_friends_129 (Nat.le_refl _) (Nat.le_refl _) rfl (Qp_g (by simp [sp_friends, h5, h13, h18, ea, eb, h30, h42, e72, e80]) (CoR_fr1 (CoR_fr1 hR ha (va := nI b) (by rw [if_neg hnb, eb])) hb (va := nI a) (by rw [if_neg hna, ea])) fz_rfl (fzS_set (fzS_set fzS_rfl (by omega)) (by omega)) (Nat.le_add_right _ _))
                · have e80 : ¬ T 481 b = -1 := fun q => by { rw [fr_none.mpr q] at h80; cases h80 }
                  refine x_goto C dX1_friends_83 96 (by decide) ?_
                  refine x_ic (j := 0) C dX1_friends_96 97 rfl ?_
                  exact x_zret C dX1_friends_97 (Nat.le_refl _) (Nat.le_refl _) rfl (Qp_n hR (by simp [sp_friends, no0, h5, h13, h18, ea, eb, h30, h42, e72, e80]))
            | false =>
              refine x_iload_n C dX1_friends_63 64 rfl rfl ?_
              refine x_ifeqZ C dX1_friends_64 67 86 rfl (by decide) (fun _ => ?_) (fun h64 => absurd h64 (by decide))
              refine x_aloadr C dX1_friends_86 88 rfl rfl ?_
              refine x_getq C fl_X1_141 (Or.inl ⟨_, rfl⟩) dX1_friends_88 91 rfl (cp_T hR ha) (cp_friend hR ha) ?_
              refine x_aloadr C dX1_friends_91 93 rfl rfl ?_
              refine x_acmpeq (a := frR K T a) (b := some (pa K b)) C dX1_friends_93 96 98 rfl (by decide) (ac_in (fr_tag hR hI hF ha) (fun x hx => by cases hx; rw [cp_T hR hb]; decide)) (fun h93 => ?_) (fun h93 => ?_)
              · have e93 := (fr_eq hR hI hF ha hb).mp h93
                refine x_aloadr C dX1_friends_98 100 rfl rfl ?_
                refine x_iload_n C dX1_friends_100 101 rfl rfl ?_
                refine x_ifeqZ C dX1_friends_101 104 109 rfl (by decide) (fun _ => ?_) (fun h101 => absurd h101 (by decide))
                refine x_null C dX1_friends_109 110 rfl ?_
                refine x_putq (r := none) C fl_X1_141 (Or.inl ⟨_, rfl⟩) (Or.inl rfl) dX1_friends_110 113 rfl (cp_T hR ha) ?_
                refine x_aloadr C dX1_friends_113 115 rfl rfl ?_
                refine x_iload_n C dX1_friends_115 116 rfl rfl ?_
                refine x_ifeqZ C dX1_friends_116 119 124 rfl (by decide) (fun _ => ?_) (fun h116 => absurd h116 (by decide))
                refine x_null C dX1_friends_124 125 rfl ?_
                refine x_putq (r := none) C fl_X1_141 (Or.inl ⟨_, rfl⟩) (Or.inl rfl) dX1_friends_125 128 rfl (cp_T hR hb) ?_
                refine x_ic (j := 1) C dX1_friends_128 129 rfl ?_
                exact x_zret C dX1_friends_129 (Nat.le_refl _) (Nat.le_refl _) rfl (Qp_g (by simp [sp_friends, h5, h13, h18, ea, eb, h30, h42, e93]) (CoR_fr1 (CoR_fr1 hR ha (va := -1) (if_pos rfl).symm) hb (va := -1) (if_pos rfl).symm) fz_rfl (fzS_set (fzS_set fzS_rfl (by omega)) (by omega)) (Nat.le_add_right _ _))
              · have e93 : ¬ T 481 a = nI b := fun q => h93 ((fr_eq hR hI hF ha hb).mpr q)
                refine x_ic (j := 0) C dX1_friends_96 97 rfl ?_
                exact x_zret C dX1_friends_97 (Nat.le_refl _) (Nat.le_refl _) rfl (Qp_n hR (by simp [sp_friends, no0, h5, h13, h18, ea, eb, h30, h42, e93]))
          · refine x_ic (j := 0) C dX1_friends_45 46 rfl ?_
            exact x_zret C dX1_friends_46 (Nat.le_refl _) (Nat.le_refl _) rfl (Qp_n hR (by simp [sp_friends, no0, h5, h13, h18, ea, eb, h30, h42]))
theorem kX1_put (hR : CoR K S I T) (hI : Tok T) (hF : FrOk T) (hB : BrOk T) (hL : LsOk T) (hbe : ∀ t, t < tn T → bedsOk T t) {t p r : Int32} : Ct w l yX1_put cX1_put 5 (some .boolean) 4 0 0 [.ref 0, .int t, .int p, .int r] S I J (Qp (sp_put T t p r) S I J 0) := by
  refine Ct.of [some _, some _, some _, some _, none] rfl (Nat.le_of_ble_eq_true rfl) (by decide) ?_
  intro κ hκ C
  subst hκ
  have hC := cr_S hR
  have hp10 := tk_p2 hI
  have ht6 := tk_t2 hI
  have hg30 := tk_g2 hI
  have hc30 := tk_c2 hI
  have hn500 := tk_n2 hI
  refine x_aloadr_n C dX1_put_0 1 rfl rfl ?_
  refine x_iload_n C dX1_put_1 2 rfl rfl ?_
  refine x_callV C lk_X1_124 dX1_put_2 5 rfl [_] [] rfl rfl hC.1 (Nat.le_of_ble_eq_true rfl) (by decide) (Nat.le_refl _) (Nat.le_refl _) (kX1_isTown hR) ?_
  rintro _ _ _ _ ⟨rfl, rfl, rfl, rfl⟩
  refine x_ifeqZ C dX1_put_5 8 51 rfl (by decide) (fun h5 => ?_) (fun h5 => ?_)
  · refine x_ic (j := 0) C dX1_put_51 52 rfl ?_
    exact x_zret C dX1_put_52 (Nat.le_refl _) (Nat.le_refl _) rfl (Qp_n hR (by simp [sp_put, opB, no0, h5]))
  · refine x_aloadr_n C dX1_put_8 9 rfl rfl ?_
    refine x_iload_n C dX1_put_9 10 rfl rfl ?_
    refine x_callV C lk_X1_134 dX1_put_10 13 rfl [_] [] rfl rfl hC.1 (Nat.le_of_ble_eq_true rfl) (by decide) (Nat.le_refl _) (Nat.le_refl _) (kX1_isPerson hR) ?_
    rintro _ _ _ _ ⟨rfl, rfl, rfl, rfl⟩
    refine x_ifeqZ C dX1_put_13 16 51 rfl (by decide) (fun h13 => ?_) (fun h13 => ?_)
    · refine x_ic (j := 0) C dX1_put_51 52 rfl ?_
      exact x_zret C dX1_put_52 (Nat.le_refl _) (Nat.le_refl _) rfl (Qp_n hR (by simp [sp_put, opB, no0, h5, h13]))
    · obtain ⟨t, ht, rfl⟩ := to_I hI h5
      obtain ⟨p, hp, rfl⟩ := pe_I hI h13
      have et : nt (nI t) = t := nt_nI (by omega)
      have ep : nt (nI p) = p := nt_nI (by omega)
      refine x_aloadr_n C dX1_put_16 17 rfl rfl ?_
      refine x_iload_n C dX1_put_17 18 rfl rfl ?_
      refine x_callV C lk_X1_157 dX1_put_18 21 rfl [_] [] rfl rfl hC.1 (Nat.le_of_ble_eq_true rfl) (by decide) (Nat.le_refl _) (Nat.le_refl _) (kX1_isOver hR hI ht) ?_
      rintro _ _ _ _ ⟨rfl, rfl, rfl, rfl⟩
      refine x_ifneZ C dX1_put_21 24 51 rfl (by decide) (fun h21 => ?_) (fun h21 => ?_)
      · refine x_ic (j := 0) C dX1_put_51 52 rfl ?_
        exact x_zret C dX1_put_52 (Nat.le_refl _) (Nat.le_refl _) rfl (Qp_n hR (by simp [sp_put, opB, putB, noteT, no0, h5, h13, et, ep, h21]))
      · refine x_aloadr_n C dX1_put_24 25 rfl rfl ?_
        refine x_getr C fl_X1_11 (Or.inr ⟨_, rfl⟩) dX1_put_25 28 rfl hC.1 (coR_people hC) ?_
        refine x_iload_n C dX1_put_28 29 rfl rfl ?_
        refine x_aaldr (t := 4) C dX1_put_29 30 rfl (coA_people hC) (by decide) (coN_people hC) rfl (by omega) (by decide) (cp_elt hR hp) ?_
        refine x_iload_n C dX1_put_30 31 rfl rfl ?_
        refine x_callV C lk_X1_219 dX1_put_31 34 rfl [_] [] rfl rfl (cp_T hR hp) (Nat.le_of_ble_eq_true rfl) (by decide) (Nat.le_refl _) (Nat.le_refl _) (kX4_isThere hR hp) ?_
        rintro _ _ _ _ ⟨rfl, rfl, rfl, rfl⟩
        refine x_ifeqZ C dX1_put_34 37 51 rfl (by decide) (fun h34 => ?_) (fun h34 => ?_)
        · refine x_ic (j := 0) C dX1_put_51 52 rfl ?_
          exact x_zret C dX1_put_52 (Nat.le_refl _) (Nat.le_refl _) rfl (Qp_n hR (by simp [sp_put, opB, putB, noteT, no0, h5, h13, et, ep, h21, h34]))
        · refine x_iload_n C dX1_put_37 38 rfl rfl ?_
          refine x_icm C dX1_put_38 39 rfl ?_
          refine x_icmpeq C dX1_put_39 42 53 rfl (by decide) (fun h39 => ?_) (fun h39 => ?_)
          · subst h39
            refine x_aloadr_n C dX1_put_53 54 rfl rfl ?_
            refine x_getr C fl_X1_17 (Or.inr ⟨_, rfl⟩) dX1_put_54 57 rfl hC.1 (coR_towns hC) ?_
            refine x_iload_n C dX1_put_57 58 rfl rfl ?_
            refine x_aaldr (t := 5) C dX1_put_58 59 rfl (coA_towns hC) (by decide) (coN_towns hC) rfl (by omega) (by decide) (ct_elt hR ht) ?_
            refine x_astorer C dX1_put_59 61 rfl [_, _, _, _, _] (by decide) rfl rfl ?_
            refine x_iload_n C dX1_put_61 62 rfl rfl ?_
            refine x_icm C dX1_put_62 63 rfl ?_
            refine x_icmpeq C dX1_put_63 66 95 rfl (by decide) (fun _ => ?_) (fun h63 => absurd h63 (not_not_intro rfl))
            refine x_aloadr C dX1_put_95 97 rfl rfl ?_
            refine x_getr C fl_X1_148 (Or.inr ⟨_, rfl⟩) dX1_put_97 100 rfl (ct_T hR ht) (ct_list hR ht) ?_
            refine x_iload_n C dX1_put_100 101 rfl rfl ?_
            refine x_iald C dX1_put_101 102 rfl (ct_listA hR ht) (ct_listN hR ht) rfl (by omega) (by decide) (ct_listI hR ht _ (by omega)) ?_
            refine x_iload_n C dX1_put_102 103 rfl rfl ?_
            refine x_icmpne C dX1_put_103 106 108 rfl (by decide) (fun h103 => ?_) (fun h103 => ?_)
            · refine x_aloadr_n C dX1_put_108 109 rfl rfl ?_
              refine x_geti C fl_X1_151 (Or.inl rfl) dX1_put_109 112 rfl hC.1 (cs_noteMany hR) ?_
              refine x_sip (j := 500) C dX1_put_112 115 rfl (by decide) ?_
              refine x_icmpne C dX1_put_115 118 120 rfl (by decide) (fun h115 => ?_) (fun h115 => ?_)
              · have hn : nn T < 500 := by { have : ¬ nn T = 500 := fun q => h115 (by rw [tk_n hI, q]); omega }
                refine x_aloadr_n C dX1_put_120 121 rfl rfl ?_
                refine x_iload_n C dX1_put_121 122 rfl rfl ?_
                refine x_iload_n C dX1_put_122 123 rfl rfl ?_
                refine x_iload_n C dX1_put_123 124 rfl rfl ?_
                refine x_callV C lk_X1_164 dX1_put_124 127 rfl [_, _, _] [] rfl rfl hC.1 (Nat.le_of_ble_eq_true rfl) (by decide) (Nat.le_refl _) (Nat.le_refl _) (kX1_note hR hI ht (by omega) hn) ?_
                rintro _ _ M _ ⟨rfl, rfl, rfl, hM, hf⟩
                refine x_ic (j := 1) C dX1_put_127 128 rfl ?_
                exact x_zret C dX1_put_128 (Nat.le_refl _) (Nat.le_refl _) rfl (Qp_s (by simp [sp_put, opB, putB, noteT, h5, h13, et, ep, h21, h34, h103, h115]) hM hf)
              · have e115 := eq_true h115
                refine x_ic (j := 0) C dX1_put_118 119 rfl ?_
                exact x_zret C dX1_put_119 (Nat.le_refl _) (Nat.le_refl _) rfl (Qp_n hR (by simp [sp_put, opB, putB, noteT, no0, h5, h13, et, ep, h21, h34, h103, e115]))
            · have e103 := eq_true h103
              refine x_ic (j := 1) C dX1_put_106 107 rfl ?_
              exact x_zret C dX1_put_107 (Nat.le_refl _) (Nat.le_refl _) rfl (Qp_n hR (by simp [sp_put, opB, putB, noteT, no0, h5, h13, et, ep, h21, h34, e103]))
          · refine x_aloadr_n C dX1_put_42 43 rfl rfl ?_
            refine x_iload_n C dX1_put_43 44 rfl rfl ?_
            refine x_iload_n C dX1_put_44 45 rfl rfl ?_
            refine x_callV C lk_X1_222 dX1_put_45 48 rfl [_, _] [] rfl rfl hC.1 (Nat.le_of_ble_eq_true rfl) (by decide) (Nat.le_refl _) (Nat.le_refl _) (kX1_isRoom hR hI) ?_
            rintro _ _ _ _ ⟨rfl, rfl, rfl, rfl⟩
            rw [h5, et, Bool.true_and]
            refine x_ifneZ C dX1_put_48 51 53 rfl (by decide) (fun h48 => ?_) (fun h48 => ?_)
            · refine x_aloadr_n C dX1_put_53 54 rfl rfl ?_
              refine x_getr C fl_X1_17 (Or.inr ⟨_, rfl⟩) dX1_put_54 57 rfl hC.1 (coR_towns hC) ?_
              refine x_iload_n C dX1_put_57 58 rfl rfl ?_
              refine x_aaldr (t := 5) C dX1_put_58 59 rfl (coA_towns hC) (by decide) (coN_towns hC) rfl (by omega) (by decide) (ct_elt hR ht) ?_
              refine x_astorer C dX1_put_59 61 rfl [_, _, _, _, _] (by decide) rfl rfl ?_
              refine x_iload_n C dX1_put_61 62 rfl rfl ?_
              refine x_icm C dX1_put_62 63 rfl ?_
              refine x_icmpeq C dX1_put_63 66 95 rfl (by decide) (fun h63 => absurd h63 h39) (fun _ => ?_)
              have h48' := h48
              rw [tk_r hI (by omega)] at h48'
              obtain ⟨r, hr, rfl⟩ := in_of h48' (by have := tk_r2 hI (show t < 6 by omega); omega)
              have hr10 : r < 10 := by have := tk_r2 hI (show t < 6 by omega); omega
              have er : nt (nI r) = r := nt_nI (by omega)
              have hj := put_jn hI hF hB (hbe t ht) ht hp hr
              have hs2 : nd (si T (pn T) t (nI r)) (2 ^ p) < 2 ^ pn T := nd_lt (msk_lt _ _)
              refine x_aloadr_n C dX1_put_66 67 rfl rfl ?_
              refine x_aloadr C dX1_put_67 69 rfl rfl ?_
              refine x_getr C fl_X1_187 (Or.inr ⟨_, rfl⟩) dX1_put_69 72 rfl (ct_T hR ht) (ct_rooms hR ht) ?_
              refine x_iload_n C dX1_put_72 73 rfl rfl ?_
              refine x_aaldr (t := 6) C dX1_put_73 74 rfl (ct_roomsA hR ht) (by decide) (ct_roomsN hR ht) rfl (by omega) (by decide) (cm_elt hR ht hr) ?_
              refine x_aloadr C dX1_put_74 76 rfl rfl ?_
              refine x_iload_n C dX1_put_76 77 rfl rfl ?_
              refine x_callV C lk_X1_226 dX1_put_77 80 rfl [_] [_, _] rfl rfl (ct_T hR ht) (Nat.le_of_ble_eq_true rfl) (by decide) (Nat.le_refl _) (Nat.le_refl _) (kX5_inside hR hI hL ht (by omega)) ?_
              rintro _ _ _ _ ⟨rfl, rfl, rfl, rfl⟩
              refine x_ic (j := 1) C dX1_put_80 81 rfl ?_
              refine x_iload_n C dX1_put_81 82 rfl rfl ?_
              refine x_ishl C dX1_put_82 83 rfl (nI_shl1' _ (by omega)) ?_
              refine x_icm C dX1_put_83 84 rfl ?_
              refine x_ixor C dX1_put_84 85 rfl rfl ?_
              refine x_iand C dX1_put_85 86 rfl (nI_nd _ _) ?_
              refine x_iload_n C dX1_put_86 87 rfl rfl ?_
              refine x_callV C lk_X1_229 dX1_put_87 90 rfl [_, _, _] [] rfl rfl hC.1 (Nat.le_of_ble_eq_true rfl) (by decide) (Nat.le_refl _) (Nat.le_refl _) (kX1_joins hR hI hF ht hr hs2 hp (hbe t ht)) ?_
              rintro _ _ _ _ ⟨rfl, rfl, rfl, rfl⟩
              refine x_ifneZ C dX1_put_90 93 95 rfl (by decide) (fun h90 => ?_) (fun h90 => ?_)
              · refine x_aloadr C dX1_put_95 97 rfl rfl ?_
                refine x_getr C fl_X1_148 (Or.inr ⟨_, rfl⟩) dX1_put_97 100 rfl (ct_T hR ht) (ct_list hR ht) ?_
                refine x_iload_n C dX1_put_100 101 rfl rfl ?_
                refine x_iald C dX1_put_101 102 rfl (ct_listA hR ht) (ct_listN hR ht) rfl (by omega) (by decide) (ct_listI hR ht _ (by omega)) ?_
                refine x_iload_n C dX1_put_102 103 rfl rfl ?_
                refine x_icmpne C dX1_put_103 106 108 rfl (by decide) (fun h103 => ?_) (fun h103 => ?_)
                · refine x_aloadr_n C dX1_put_108 109 rfl rfl ?_
                  refine x_geti C fl_X1_151 (Or.inl rfl) dX1_put_109 112 rfl hC.1 (cs_noteMany hR) ?_
                  refine x_sip (j := 500) C dX1_put_112 115 rfl (by decide) ?_
                  refine x_icmpne C dX1_put_115 118 120 rfl (by decide) (fun h115 => ?_) (fun h115 => ?_)
                  · have hn : nn T < 500 := by { have : ¬ nn T = 500 := fun q => h115 (by rw [tk_n hI, q]); omega }
                    refine x_aloadr_n C dX1_put_120 121 rfl rfl ?_
                    refine x_iload_n C dX1_put_121 122 rfl rfl ?_
                    refine x_iload_n C dX1_put_122 123 rfl rfl ?_
                    refine x_iload_n C dX1_put_123 124 rfl rfl ?_
                    refine x_callV C lk_X1_164 dX1_put_124 127 rfl [_, _, _] [] rfl rfl hC.1 (Nat.le_of_ble_eq_true rfl) (by decide) (Nat.le_refl _) (Nat.le_refl _) (kX1_note hR hI ht (by omega) hn) ?_
                    rintro _ _ M _ ⟨rfl, rfl, rfl, hM, hf⟩
                    refine x_ic (j := 1) C dX1_put_127 128 rfl ?_
                    exact x_zret C dX1_put_128 (Nat.le_refl _) (Nat.le_refl _) rfl (Qp_s (by simp [sp_put, opB, noteT, h5, h13, et, ep, h21, h34, h39, h48, er, hj, h90, h103, h115]) hM hf)
                  · have e115 := eq_true h115
                    refine x_ic (j := 0) C dX1_put_118 119 rfl ?_
                    exact x_zret C dX1_put_119 (Nat.le_refl _) (Nat.le_refl _) rfl (Qp_n hR (by simp [sp_put, opB, noteT, no0, h5, h13, et, ep, h21, h34, h39, h48, er, hj, h90, h103, e115]))
                · have e103 := eq_true h103
                  refine x_ic (j := 1) C dX1_put_106 107 rfl ?_
                  exact x_zret C dX1_put_107 (Nat.le_refl _) (Nat.le_refl _) rfl (Qp_n hR (by simp [sp_put, opB, noteT, no0, h5, h13, et, ep, h21, h34, h39, h48, er, hj, h90, e103]))
              · refine x_ic (j := 0) C dX1_put_93 94 rfl ?_
                exact x_zret C dX1_put_94 (Nat.le_refl _) (Nat.le_refl _) rfl (Qp_n hR (by simp [sp_put, opB, noteT, no0, h5, h13, et, ep, h21, h34, h39, h48, er, hj, h90]))
            · refine x_ic (j := 0) C dX1_put_51 52 rfl ?_
              exact x_zret C dX1_put_52 (Nat.le_refl _) (Nat.le_refl _) rfl (Qp_n hR (by simp [sp_put, opB, putB, noteT, no0, h5, h13, et, ep, h21, h34, h39, h48]))
end Co12

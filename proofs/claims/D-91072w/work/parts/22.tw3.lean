/-! the twin: people, towns, days -/
abbrev Qm (q : Int32 × Mi) (S : Sh) (J : Ml) : Option Value → Sh → Mi → Ml → Prop := fun r S' I' J' => r = some (.int q.1) ∧ S = S' ∧ q.2 = I' ∧ J = J'
theorem Qm_of {q : Int32 × Mi} {v : Int32} {S : Sh} {I' : Mi} {J : Ml} (h : q = (v, I')) : Qm q S J (some (.int v)) S I' J := by
  subst h
  exact ⟨rfl, rfl, rfl, rfl⟩
/-- a number out of the memory -/
def nt (x : Int32) : Nat := x.toNatClampNeg
theorem nt_of {x : Int32} {n : Nat} (h : x = nI n) (hn : n < 2 ^ 31) : nt x = n := by
  rw [h]
  exact nI_clamp hn
/-- the pair without a change -/
def no1 (I : Mi) : Int32 × Mi := (-1, I)
def no0 (I : Mi) : Int32 × Mi := (nI 0, I)
theorem in_of {v : Int32} {m : Nat} (h : inB v (nI 0) (nI m - nI 1) = true) (hm : m < 2 ^ 31) : ∃ j : Nat, j < m ∧ v = nI j := by
  obtain ⟨h1, h2⟩ := inB_iff.mp h
  have h1' : ¬ v < 0 := Int32.not_lt.mpr h1
  obtain ⟨j, hj, e⟩ := nI_of h1'
  refine ⟨j, ?_, e⟩
  subst e
  cases m with
  | zero =>
    exfalso
    have : (nI j).toInt ≤ (nI 0 - nI 1).toInt := Int32.le_iff_toInt_le.mp h2
    rw [nI_toInt hj] at this
    have e2 : (nI 0 - nI 1).toInt = -1 := by decide +kernel
    omega
  | succ m =>
    rw [show nI (m + 1) - nI 1 = nI m from nI_pred m] at h2
    have := (nI_leI hj (by omega)).mp h2
    omega
theorem in_is {j m : Nat} (hj : j < m) (hm : m < 2 ^ 31) : inB (nI j) (nI 0) (nI m - nI 1) = true := by
  apply inB_iff.mpr
  cases m with
  | zero => omega
  | succ m =>
    rw [show nI (m + 1) - nI 1 = nI m from nI_pred m]
    exact ⟨nI_le (Nat.zero_le _) (by omega), nI_le (by omega) (by omega)⟩
def sp_season (I : Mi) (s : Int32) : Int32 × Mi := if inB s (nI 0) (nI 3) then (nI 1, sto I 473 16 s) else no0 I
def sp_day (I : Mi) (n : Int32) : Int32 × Mi := if inB n (nI 0) (nI 100) && !decide (nI 1000 < I 473 14 + n) then (I 473 14 + n, sto I 473 14 (I 473 14 + n)) else no1 I
def sp_start (I : Mi) (d : Int32) : Int32 × Mi := if inB d (nI 0) (nI 400) && !decide (0 < I 473 13) then (nI 1, sto I 473 15 d) else no0 I
def sp_town (I : Mi) (k : Int32) : Int32 × Mi := if inB k (nI 1) (nI 5) && decide (¬ I 473 11 = nI 6) && !decide (0 < I 473 13) then (I 473 11, sto (sto (sto (sto I 483 (nt (I 473 11)) k) 484 (nt (I 473 11)) (I 473 12)) 473 12 (I 473 12 + k)) 473 11 (I 473 11 + nI 1)) else no1 I
def sp_person (I : Mi) (sh : Bool) (so : Int32) (lo : Bool) (di fr tt : Int32) : Int32 × Mi :=
  if inB so (nI 0) (nI 3) && inB di (nI 0) (nI 3) && inB fr (nI 0) (nI 5) && inB tt fr (nI 5) && decide (¬ I 473 1 = nI 10) then
    (I 473 1, sto (sto (sto (sto (sto (sto (sto (sto I 474 (nt (I 473 1)) (bz sh)) 475 (nt (I 473 1)) so) 476 (nt (I 473 1)) (bz lo)) 477 (nt (I 473 1)) di) 478 (nt (I 473 1)) fr) 479 (nt (I 473 1)) tt) 481 (nt (I 473 1)) (-1)) 473 1 (I 473 1 + nI 1))
  else no1 I
def sp_friends (I : Mi) (a b : Int32) (are : Bool) : Int32 × Mi :=
  if peB I a && peB I b && decide (¬ a = b) && decide (I 480 (nt a) = 0) && decide (I 480 (nt b) = 0) && (if are then decide (I 481 (nt a) = -1) && decide (I 481 (nt b) = -1) else decide (I 481 (nt a) = b)) then
    (nI 1, sto (sto I 481 (nt a) (if are then b else -1)) 481 (nt b) (if are then a else -1))
  else no0 I
def sp_bar (I : Mi) (a b : Int32) (is : Bool) : Int32 × Mi :=
  if peB I a && peB I b && decide (¬ a = b) && decide (¬ I 482 (10 * nt a + nt b) = bz is) then
    (nI 1, sto (sto I 482 (10 * nt a + nt b) (bz is)) 482 (10 * nt b + nt a) (bz is))
  else no0 I
def sp_absent (I : Mi) (p k : Int32) (is : Bool) : Int32 × Mi :=
  if peB I p && inB k (I 473 13) (I 473 12 - nI 1) then (nI 1, sto I 494 (10 * nt k + nt p) (bz is)) else no0 I
def opB (I : Mi) (t : Int32) : Bool := toB I t && !ovB I (nt t)
def sp_room (I : Mi) (t b : Int32) (lo : Bool) (pr : Int32) : Int32 × Mi :=
  if opB I t && inB b (nI 1) (nI 2) && inB pr (nI 1) (nI 1000) && decide (¬ I 485 (nt t) = nI 10) then
    (I 485 (nt t), sto (sto (sto (sto (sto I 486 (10 * nt t + nt (I 485 (nt t))) b) 487 (10 * nt t + nt (I 485 (nt t))) (bz lo)) 488 (10 * nt t + nt (I 485 (nt t))) pr) 489 (10 * nt t + nt (I 485 (nt t))) (nI 1)) 485 (nt t) (I 485 (nt t) + nI 1))
  else no1 I
section Tw3
variable {w : Wd} {l : Launch} {S : Sh} {I : Mi} {J : Ml}
theorem kX3_season (hS : twS S) {s : Int32} : Ct w l yX3_season cX3_season 2 (some .boolean) 2 0 0 [.ref 473, .int s] S I J (Qm (sp_season I s) S J) := by
  refine Ct.of [some _, some _] rfl (Nat.le_of_ble_eq_true rfl) (by decide) ?_
  intro κ hκ C
  subst hκ
  refine x_iload_n C dX3_season_0 1 rfl rfl ?_
  refine x_ic (j := 0) C dX3_season_1 2 rfl ?_
  refine x_ic (j := 3) C dX3_season_2 3 rfl ?_
  refine x_callS C lk_X3_160 dX3_season_3 6 rfl [_, _, _] [] rfl rfl (Nat.le_of_ble_eq_true rfl) (by decide) (Nat.le_refl _) (Nat.le_refl _) kX3_in ?_
  rintro _ _ _ _ ⟨rfl, rfl, rfl, rfl⟩
  refine x_ifneZ C dX3_season_6 9 11 rfl (by decide) (fun h6 => ?_) (fun h6 => ?_)
  ·
    refine x_aloadr_n C dX3_season_11 12 rfl rfl ?_
    refine x_iload_n C dX3_season_12 13 rfl rfl ?_
    refine x_puti C fl_X3_195 (Or.inl rfl) (Or.inl rfl) dX3_season_13 16 rfl hS.1 ?_
    refine x_ic (j := 1) C dX3_season_16 17 rfl ?_
    exact x_zret C dX3_season_17 (Nat.le_refl _) (Nat.le_refl _) rfl (Qm_of (by simp [sp_season, h6]))
  ·
    refine x_ic (j := 0) C dX3_season_9 10 rfl ?_
    exact x_zret C dX3_season_10 (Nat.le_refl _) (Nat.le_refl _) rfl (Qm_of (by simp [sp_season, h6, no0]))
theorem kX3_day (hS : twS S) {n : Int32} : Ct w l yX3_day cX3_day 2 (some .int) 2 0 0 [.ref 473, .int n] S I J (Qm (sp_day I n) S J) := by
  refine Ct.of [some _, some _] rfl (Nat.le_of_ble_eq_true rfl) (by decide) ?_
  intro κ hκ C
  subst hκ
  refine x_iload_n C dX3_day_0 1 rfl rfl ?_
  refine x_ic (j := 0) C dX3_day_1 2 rfl ?_
  refine x_bip (j := 100) C dX3_day_2 4 rfl (by decide) ?_
  refine x_callS C lk_X3_160 dX3_day_4 7 rfl [_, _, _] [] rfl rfl (Nat.le_of_ble_eq_true rfl) (by decide) (Nat.le_refl _) (Nat.le_refl _) kX3_in ?_
  rintro _ _ _ _ ⟨rfl, rfl, rfl, rfl⟩
  refine x_ifeqZ C dX3_day_7 10 22 rfl (by decide) (fun h7 => ?_) (fun h7 => ?_)
  ·
    refine x_icm C dX3_day_22 23 rfl ?_
    exact x_iret C dX3_day_23 (Nat.le_refl _) (Nat.le_refl _) (Qm_of (by simp [sp_day, h7, no1]))
  · refine x_aloadr_n C dX3_day_10 11 rfl rfl ?_
    refine x_geti C fl_X3_183 (Or.inl rfl) dX3_day_11 14 rfl hS.1 rfl ?_
    refine x_iload_n C dX3_day_14 15 rfl rfl ?_
    refine x_iadd C dX3_day_15 16 rfl rfl ?_
    refine x_sip (j := 1000) C dX3_day_16 19 rfl (by decide) ?_
    refine x_icmple C dX3_day_19 22 24 rfl (by decide) (fun h19 => ?_) (fun h19 => ?_)
    ·
      refine x_aloadr_n C dX3_day_24 25 rfl rfl ?_
      refine x_dup C dX3_day_25 26 rfl rfl ?_
      refine x_geti C fl_X3_183 (Or.inl rfl) dX3_day_26 29 rfl hS.1 rfl ?_
      refine x_iload_n C dX3_day_29 30 rfl rfl ?_
      refine x_iadd C dX3_day_30 31 rfl rfl ?_
      refine x_puti C fl_X3_183 (Or.inl rfl) (Or.inl rfl) dX3_day_31 34 rfl hS.1 ?_
      refine x_aloadr_n C dX3_day_34 35 rfl rfl ?_
      refine x_geti C fl_X3_183 (Or.inl rfl) dX3_day_35 38 rfl hS.1 (sto_ss _ _ _ _) ?_
      exact x_iret C dX3_day_38 (Nat.le_refl _) (Nat.le_refl _) (Qm_of (by simp [sp_day, h7, h19]))
    ·
      refine x_icm C dX3_day_22 23 rfl ?_
      exact x_iret C dX3_day_23 (Nat.le_refl _) (Nat.le_refl _) (Qm_of (by simp [sp_day, h7, h19, no1]))
theorem kX3_start (hS : twS S) {n : Int32} : Ct w l yX3_start cX3_start 2 (some .boolean) 2 0 0 [.ref 473, .int n] S I J (Qm (sp_start I n) S J) := by
  refine Ct.of [some _, some _] rfl (Nat.le_of_ble_eq_true rfl) (by decide) ?_
  intro κ hκ C
  subst hκ
  refine x_iload_n C dX3_start_0 1 rfl rfl ?_
  refine x_ic (j := 0) C dX3_start_1 2 rfl ?_
  refine x_sip (j := 400) C dX3_start_2 5 rfl (by decide) ?_
  refine x_callS C lk_X3_160 dX3_start_5 8 rfl [_, _, _] [] rfl rfl (Nat.le_of_ble_eq_true rfl) (by decide) (Nat.le_refl _) (Nat.le_refl _) kX3_in ?_
  rintro _ _ _ _ ⟨rfl, rfl, rfl, rfl⟩
  refine x_ifeqZ C dX3_start_8 11 18 rfl (by decide) (fun h8 => ?_) (fun h8 => ?_)
  ·
    refine x_ic (j := 0) C dX3_start_18 19 rfl ?_
    exact x_zret C dX3_start_19 (Nat.le_refl _) (Nat.le_refl _) rfl (Qm_of (by simp [sp_start, h8, no0]))
  · refine x_aloadr_n C dX3_start_11 12 rfl rfl ?_
    refine x_geti C fl_X3_167 (Or.inl rfl) dX3_start_12 15 rfl hS.1 rfl ?_
    refine x_ifle C dX3_start_15 18 20 rfl (by decide) (fun h15 => ?_) (fun h15 => ?_)
    ·
      refine x_aloadr_n C dX3_start_20 21 rfl rfl ?_
      refine x_iload_n C dX3_start_21 22 rfl rfl ?_
      refine x_puti C fl_X3_42 (Or.inl rfl) (Or.inl rfl) dX3_start_22 25 rfl hS.1 ?_
      refine x_ic (j := 1) C dX3_start_25 26 rfl ?_
      exact x_zret C dX3_start_26 (Nat.le_refl _) (Nat.le_refl _) rfl (Qm_of (by simp [sp_start, h8, h15]))
    ·
      refine x_ic (j := 0) C dX3_start_18 19 rfl ?_
      exact x_zret C dX3_start_19 (Nat.le_refl _) (Nat.le_refl _) rfl (Qm_of (by simp [sp_start, h8, h15, no0]))
theorem kX3_town (hS : twS S) {k : Int32} {m : Nat} (hm : I 473 11 = nI m) (hm2 : m ≤ 6) : Ct w l yX3_town cX3_town 2 (some .int) 2 0 0 [.ref 473, .int k] S I J (Qm (sp_town I k) S J) := by
  have e : nt (I 473 11) = m := nt_of hm (by omega)
  refine Ct.of [some _, some _] rfl (Nat.le_of_ble_eq_true rfl) (by decide) ?_
  intro κ hκ C
  subst hκ
  refine x_iload_n C dX3_town_0 1 rfl rfl ?_
  refine x_ic (j := 1) C dX3_town_1 2 rfl ?_
  refine x_ic (j := 5) C dX3_town_2 3 rfl ?_
  refine x_callS C lk_X3_160 dX3_town_3 6 rfl [_, _, _] [] rfl rfl (Nat.le_of_ble_eq_true rfl) (by decide) (Nat.le_refl _) (Nat.le_refl _) kX3_in ?_
  rintro _ _ _ _ ⟨rfl, rfl, rfl, rfl⟩
  refine x_ifeqZ C dX3_town_6 9 25 rfl (by decide) (fun h6 => ?_) (fun h6 => ?_)
  ·
    refine x_icm C dX3_town_25 26 rfl ?_
    exact x_iret C dX3_town_26 (Nat.le_refl _) (Nat.le_refl _) (Qm_of (by simp [sp_town, h6, no1]))
  · refine x_aloadr_n C dX3_town_9 10 rfl rfl ?_
    refine x_geti C fl_X3_164 (Or.inl rfl) dX3_town_10 13 rfl hS.1 hm ?_
    refine x_bip (j := 6) C dX3_town_13 15 rfl (by decide) ?_
    refine x_icmpeqN C dX3_town_15 18 25 rfl (by decide) (by omega) (by omega) (fun h15 => ?_) (fun h15 => ?_)
    ·
      refine x_icm C dX3_town_25 26 rfl ?_
      exact x_iret C dX3_town_26 (Nat.le_refl _) (Nat.le_refl _) (Qm_of (by simp [sp_town, h15, hm, no1]))
    · refine x_aloadr_n C dX3_town_18 19 rfl rfl ?_
      refine x_geti C fl_X3_167 (Or.inl rfl) dX3_town_19 22 rfl hS.1 rfl ?_
      refine x_ifle C dX3_town_22 25 27 rfl (by decide) (fun h22 => ?_) (fun h22 => ?_)
      ·
        refine x_aloadr_n C dX3_town_27 28 rfl rfl ?_
        refine x_getr C fl_X3_45 (Or.inr ⟨_, rfl⟩) dX3_town_28 31 rfl hS.1 (twR_long0 hS) ?_
        refine x_aloadr_n C dX3_town_31 32 rfl rfl ?_
        refine x_geti C fl_X3_164 (Or.inl rfl) dX3_town_32 35 rfl hS.1 hm ?_
        refine x_iload_n C dX3_town_35 36 rfl rfl ?_
        refine x_iast C dX3_town_36 37 rfl (twA_long0 hS) (twN_long0 hS) rfl (by omega) (by decide) ?_
        refine x_aloadr_n C dX3_town_37 38 rfl rfl ?_
        refine x_getr C fl_X3_48 (Or.inr ⟨_, rfl⟩) dX3_town_38 41 rfl hS.1 (twR_first hS) ?_
        refine x_aloadr_n C dX3_town_41 42 rfl rfl ?_
        refine x_geti C fl_X3_164 (Or.inl rfl) dX3_town_42 45 rfl hS.1 hm ?_
        refine x_aloadr_n C dX3_town_45 46 rfl rfl ?_
        refine x_geti C fl_X3_192 (Or.inl rfl) dX3_town_46 49 rfl hS.1 rfl ?_
        refine x_iast C dX3_town_49 50 rfl (twA_first hS) (twN_first hS) rfl (by omega) (by decide) ?_
        refine x_aloadr_n C dX3_town_50 51 rfl rfl ?_
        refine x_dup C dX3_town_51 52 rfl rfl ?_
        refine x_geti C fl_X3_192 (Or.inl rfl) dX3_town_52 55 rfl hS.1 rfl ?_
        refine x_iload_n C dX3_town_55 56 rfl rfl ?_
        refine x_iadd C dX3_town_56 57 rfl rfl ?_
        refine x_puti C fl_X3_192 (Or.inl rfl) (Or.inl rfl) dX3_town_57 60 rfl hS.1 ?_
        refine x_aloadr_n C dX3_town_60 61 rfl rfl ?_
        refine x_dup C dX3_town_61 62 rfl rfl ?_
        refine x_geti C fl_X3_164 (Or.inl rfl) dX3_town_62 65 rfl hS.1 hm ?_
        refine x_ic (j := 1) C dX3_town_65 66 rfl ?_
        refine x_iadd C dX3_town_66 67 rfl (nI_add _ _) ?_
        refine x_puti C fl_X3_164 (Or.inl rfl) (Or.inl rfl) dX3_town_67 70 rfl hS.1 ?_
        refine x_aloadr_n C dX3_town_70 71 rfl rfl ?_
        refine x_geti C fl_X3_164 (Or.inl rfl) dX3_town_71 74 rfl hS.1 (sto_ss _ _ _ _) ?_
        refine x_ic (j := 1) C dX3_town_74 75 rfl ?_
        refine x_isub C dX3_town_75 76 rfl (pk_sub (by omega)) ?_
        exact x_iret C dX3_town_76 (Nat.le_refl _) (Nat.le_refl _) (Qm_of (by unfold sp_town; rw [if_pos (by simp [h6, h22, hm, nI_eq (show m < 2 ^ 31 by omega) (show 6 < 2 ^ 31 by decide), h15]), e, hm, nI_add, Nat.add_sub_cancel]; rfl))
      ·
        refine x_icm C dX3_town_25 26 rfl ?_
        exact x_iret C dX3_town_26 (Nat.le_refl _) (Nat.le_refl _) (Qm_of (by simp [sp_town, h22, no1]))
theorem kX3_person (hS : twS S) {sh lo : Bool} {so di fr tt : Int32} {n : Nat} (hn : I 473 1 = nI n) (hn2 : n ≤ 10) : Ct w l yX3_person cX3_person 7 (some .int) 2 0 0 [.ref 473, .int (bz sh), .int so, .int (bz lo), .int di, .int fr, .int tt] S I J (Qm (sp_person I sh so lo di fr tt) S J) := by
  have e : nt (I 473 1) = n := nt_of hn (by omega)
  refine Ct.of [some _, some _, some _, some _, some _, some _, some _] rfl (Nat.le_of_ble_eq_true rfl) (by decide) ?_
  intro κ hκ C
  subst hκ
  refine x_iload_n C dX3_person_0 1 rfl rfl ?_
  refine x_ic (j := 0) C dX3_person_1 2 rfl ?_
  refine x_ic (j := 3) C dX3_person_2 3 rfl ?_
  refine x_callS C lk_X3_160 dX3_person_3 6 rfl [_, _, _] [] rfl rfl (Nat.le_of_ble_eq_true rfl) (by decide) (Nat.le_refl _) (Nat.le_refl _) kX3_in ?_
  rintro _ _ _ _ ⟨rfl, rfl, rfl, rfl⟩
  refine x_ifeqZ C dX3_person_6 9 49 rfl (by decide) (fun h6 => ?_) (fun h6 => ?_)
  ·
    refine x_icm C dX3_person_49 50 rfl ?_
    exact x_iret C dX3_person_50 (Nat.le_refl _) (Nat.le_refl _) (Qm_of (by simp [sp_person, h6, no1]))
  · refine x_iload C dX3_person_9 11 rfl rfl ?_
    refine x_ic (j := 0) C dX3_person_11 12 rfl ?_
    refine x_ic (j := 3) C dX3_person_12 13 rfl ?_
    refine x_callS C lk_X3_160 dX3_person_13 16 rfl [_, _, _] [] rfl rfl (Nat.le_of_ble_eq_true rfl) (by decide) (Nat.le_refl _) (Nat.le_refl _) kX3_in ?_
    rintro _ _ _ _ ⟨rfl, rfl, rfl, rfl⟩
    refine x_ifeqZ C dX3_person_16 19 49 rfl (by decide) (fun h16 => ?_) (fun h16 => ?_)
    ·
      refine x_icm C dX3_person_49 50 rfl ?_
      exact x_iret C dX3_person_50 (Nat.le_refl _) (Nat.le_refl _) (Qm_of (by simp [sp_person, h16, no1]))
    · refine x_iload C dX3_person_19 21 rfl rfl ?_
      refine x_ic (j := 0) C dX3_person_21 22 rfl ?_
      refine x_ic (j := 5) C dX3_person_22 23 rfl ?_
      refine x_callS C lk_X3_160 dX3_person_23 26 rfl [_, _, _] [] rfl rfl (Nat.le_of_ble_eq_true rfl) (by decide) (Nat.le_refl _) (Nat.le_refl _) kX3_in ?_
      rintro _ _ _ _ ⟨rfl, rfl, rfl, rfl⟩
      refine x_ifeqZ C dX3_person_26 29 49 rfl (by decide) (fun h26 => ?_) (fun h26 => ?_)
      ·
        refine x_icm C dX3_person_49 50 rfl ?_
        exact x_iret C dX3_person_50 (Nat.le_refl _) (Nat.le_refl _) (Qm_of (by simp [sp_person, h26, no1]))
      · refine x_iload C dX3_person_29 31 rfl rfl ?_
        refine x_iload C dX3_person_31 33 rfl rfl ?_
        refine x_ic (j := 5) C dX3_person_33 34 rfl ?_
        refine x_callS C lk_X3_160 dX3_person_34 37 rfl [_, _, _] [] rfl rfl (Nat.le_of_ble_eq_true rfl) (by decide) (Nat.le_refl _) (Nat.le_refl _) kX3_in ?_
        rintro _ _ _ _ ⟨rfl, rfl, rfl, rfl⟩
        refine x_ifeqZ C dX3_person_37 40 49 rfl (by decide) (fun h37 => ?_) (fun h37 => ?_)
        ·
          refine x_icm C dX3_person_49 50 rfl ?_
          exact x_iret C dX3_person_50 (Nat.le_refl _) (Nat.le_refl _) (Qm_of (by simp [sp_person, h37, no1]))
        · refine x_aloadr_n C dX3_person_40 41 rfl rfl ?_
          refine x_geti C fl_X3_157 (Or.inl rfl) dX3_person_41 44 rfl hS.1 hn ?_
          refine x_bip (j := 10) C dX3_person_44 46 rfl (by decide) ?_
          refine x_icmpneN C dX3_person_46 49 51 rfl (by decide) (by omega) (by omega) (fun h46 => ?_) (fun h46 => ?_)
          ·
            refine x_aloadr_n C dX3_person_51 52 rfl rfl ?_
            refine x_getr C fl_X3_13 (Or.inr ⟨_, rfl⟩) dX3_person_52 55 rfl hS.1 (twR_shares hS) ?_
            refine x_aloadr_n C dX3_person_55 56 rfl rfl ?_
            refine x_geti C fl_X3_157 (Or.inl rfl) dX3_person_56 59 rfl hS.1 hn ?_
            refine x_iload_n C dX3_person_59 60 rfl rfl ?_
            refine x_zast C dX3_person_60 61 rfl (twA_shares hS) (twN_shares hS) rfl (by omega) (by decide) (bz_nar _) ?_
            refine x_aloadr_n C dX3_person_61 62 rfl rfl ?_
            refine x_getr C fl_X3_17 (Or.inr ⟨_, rfl⟩) dX3_person_62 65 rfl hS.1 (twR_sort hS) ?_
            refine x_aloadr_n C dX3_person_65 66 rfl rfl ?_
            refine x_geti C fl_X3_157 (Or.inl rfl) dX3_person_66 69 rfl hS.1 hn ?_
            refine x_iload_n C dX3_person_69 70 rfl rfl ?_
            refine x_iast C dX3_person_70 71 rfl (twA_sort hS) (twN_sort hS) rfl (by omega) (by decide) ?_
            refine x_aloadr_n C dX3_person_71 72 rfl rfl ?_
            refine x_getr C fl_X3_21 (Or.inr ⟨_, rfl⟩) dX3_person_72 75 rfl hS.1 (twR_low hS) ?_
            refine x_aloadr_n C dX3_person_75 76 rfl rfl ?_
            refine x_geti C fl_X3_157 (Or.inl rfl) dX3_person_76 79 rfl hS.1 hn ?_
            refine x_iload_n C dX3_person_79 80 rfl rfl ?_
            refine x_zast C dX3_person_80 81 rfl (twA_low hS) (twN_low hS) rfl (by omega) (by decide) (bz_nar _) ?_
            refine x_aloadr_n C dX3_person_81 82 rfl rfl ?_
            refine x_getr C fl_X3_24 (Or.inr ⟨_, rfl⟩) dX3_person_82 85 rfl hS.1 (twR_diet hS) ?_
            refine x_aloadr_n C dX3_person_85 86 rfl rfl ?_
            refine x_geti C fl_X3_157 (Or.inl rfl) dX3_person_86 89 rfl hS.1 hn ?_
            refine x_iload C dX3_person_89 91 rfl rfl ?_
            refine x_iast C dX3_person_91 92 rfl (twA_diet hS) (twN_diet hS) rfl (by omega) (by decide) ?_
            refine x_aloadr_n C dX3_person_92 93 rfl rfl ?_
            refine x_getr C fl_X3_27 (Or.inr ⟨_, rfl⟩) dX3_person_93 96 rfl hS.1 (twR_from hS) ?_
            refine x_aloadr_n C dX3_person_96 97 rfl rfl ?_
            refine x_geti C fl_X3_157 (Or.inl rfl) dX3_person_97 100 rfl hS.1 hn ?_
            refine x_iload C dX3_person_100 102 rfl rfl ?_
            refine x_iast C dX3_person_102 103 rfl (twA_from hS) (twN_from hS) rfl (by omega) (by decide) ?_
            refine x_aloadr_n C dX3_person_103 104 rfl rfl ?_
            refine x_getr C fl_X3_30 (Or.inr ⟨_, rfl⟩) dX3_person_104 107 rfl hS.1 (twR_to hS) ?_
            refine x_aloadr_n C dX3_person_107 108 rfl rfl ?_
            refine x_geti C fl_X3_157 (Or.inl rfl) dX3_person_108 111 rfl hS.1 hn ?_
            refine x_iload C dX3_person_111 113 rfl rfl ?_
            refine x_iast C dX3_person_113 114 rfl (twA_to hS) (twN_to hS) rfl (by omega) (by decide) ?_
            refine x_aloadr_n C dX3_person_114 115 rfl rfl ?_
            refine x_getr C fl_X3_36 (Or.inr ⟨_, rfl⟩) dX3_person_115 118 rfl hS.1 (twR_friend hS) ?_
            refine x_aloadr_n C dX3_person_118 119 rfl rfl ?_
            refine x_geti C fl_X3_157 (Or.inl rfl) dX3_person_119 122 rfl hS.1 hn ?_
            refine x_icm C dX3_person_122 123 rfl ?_
            refine x_iast C dX3_person_123 124 rfl (twA_friend hS) (twN_friend hS) rfl (by omega) (by decide) ?_
            refine x_aloadr_n C dX3_person_124 125 rfl rfl ?_
            refine x_dup C dX3_person_125 126 rfl rfl ?_
            refine x_geti C fl_X3_157 (Or.inl rfl) dX3_person_126 129 rfl hS.1 hn ?_
            refine x_ic (j := 1) C dX3_person_129 130 rfl ?_
            refine x_iadd C dX3_person_130 131 rfl (nI_add _ _) ?_
            refine x_puti C fl_X3_157 (Or.inl rfl) (Or.inl rfl) dX3_person_131 134 rfl hS.1 ?_
            refine x_aloadr_n C dX3_person_134 135 rfl rfl ?_
            refine x_geti C fl_X3_157 (Or.inl rfl) dX3_person_135 138 rfl hS.1 (sto_ss _ _ _ _) ?_
            refine x_ic (j := 1) C dX3_person_138 139 rfl ?_
            refine x_isub C dX3_person_139 140 rfl (pk_sub (by omega)) ?_
            exact x_iret C dX3_person_140 (Nat.le_refl _) (Nat.le_refl _) (Qm_of (by unfold sp_person; rw [if_pos (by simp [h6, h16, h26, h37, hn, nI_eq (show n < 2 ^ 31 by omega) (show 10 < 2 ^ 31 by decide), h46]), e, hn, nI_add, Nat.add_sub_cancel]))
          ·
            refine x_icm C dX3_person_49 50 rfl ?_
            exact x_iret C dX3_person_50 (Nat.le_refl _) (Nat.le_refl _) (Qm_of (by simp [sp_person, h46, hn, no1]))
theorem kX3_isOpenI (hS : twS S) {t : Int32} {m : Nat} (hm : I 473 11 = nI m) (hm2 : m ≤ 6) : Ct w l yX3_isOpen cX3_isOpen 2 (some .boolean) 3 0 0 [.ref 473, .int t] S I J (Qe (some (.int (bz (opB I t)))) S I J) := by
  cases h : toB I t with
  | false =>
    have e : opB I t = false := by simp [opB, h]
    rw [e]
    exact kX3_isOpenX hS h
  | true =>
    have h2 := h
    unfold toB at h2
    rw [hm] at h2
    obtain ⟨j, hj, rfl⟩ := in_of h2 (by omega)
    have e : opB I (nI j) = (toB I (nI j) && !ovB I j) := by unfold opB; rw [nt_of rfl (by omega)]
    rw [e]
    exact kX3_isOpen hS (by omega)
theorem pe_of {I : Mi} {p : Int32} {n : Nat} (hn : I 473 1 = nI n) (hn2 : n ≤ 10) (h : peB I p = true) : ∃ j : Nat, j < n ∧ p = nI j := by
  unfold peB at h
  rw [hn] at h
  exact in_of h (by omega)
theorem to_of {I : Mi} {t : Int32} {m : Nat} (hm : I 473 11 = nI m) (hm2 : m ≤ 6) (h : toB I t = true) : ∃ j : Nat, j < m ∧ t = nI j := by
  unfold toB at h
  rw [hm] at h
  exact in_of h (by omega)
theorem nt_nI {n : Nat} (h : n < 2 ^ 31) : nt (nI n) = n := nt_of rfl h
theorem kX3_friends (hS : twS S) {a b : Int32} {are : Bool} {n : Nat} (hn : I 473 1 = nI n) (hn2 : n ≤ 10) : Ct w l yX3_friends cX3_friends 4 (some .boolean) 3 0 0 [.ref 473, .int a, .int b, .int (bz are)] S I J (Qm (sp_friends I a b are) S J) := by
  refine Ct.of [some _, some _, some _, some _] rfl (Nat.le_of_ble_eq_true rfl) (by decide) ?_
  intro κ hκ C
  subst hκ
  refine x_aloadr_n C dX3_friends_0 1 rfl rfl ?_
  refine x_iload_n C dX3_friends_1 2 rfl rfl ?_
  refine x_callV C lk_X3_177 dX3_friends_2 5 rfl [_] [] rfl rfl hS.1 (Nat.le_of_ble_eq_true rfl) (by decide) (Nat.le_refl _) (Nat.le_refl _) (kX3_isPerson hS) ?_
  rintro _ _ _ _ ⟨rfl, rfl, rfl, rfl⟩
  refine x_ifeqZ C dX3_friends_5 8 39 rfl (by decide) (fun h5 => ?_) (fun h5 => ?_)
  ·
    refine x_ic (j := 0) C dX3_friends_39 40 rfl ?_
    exact x_zret C dX3_friends_40 (Nat.le_refl _) (Nat.le_refl _) rfl (Qm_of (by simp [sp_friends, h5, no0]))
  · refine x_aloadr_n C dX3_friends_8 9 rfl rfl ?_
    refine x_iload_n C dX3_friends_9 10 rfl rfl ?_
    refine x_callV C lk_X3_177 dX3_friends_10 13 rfl [_] [] rfl rfl hS.1 (Nat.le_of_ble_eq_true rfl) (by decide) (Nat.le_refl _) (Nat.le_refl _) (kX3_isPerson hS) ?_
    rintro _ _ _ _ ⟨rfl, rfl, rfl, rfl⟩
    refine x_ifeqZ C dX3_friends_13 16 39 rfl (by decide) (fun h13 => ?_) (fun h13 => ?_)
    ·
      refine x_ic (j := 0) C dX3_friends_39 40 rfl ?_
      exact x_zret C dX3_friends_40 (Nat.le_refl _) (Nat.le_refl _) rfl (Qm_of (by simp [sp_friends, h13, no0]))
    · obtain ⟨a, ha, rfl⟩ := pe_of hn hn2 h5
      obtain ⟨b, hb, rfl⟩ := pe_of hn hn2 h13
      have ea : nt (nI a) = a := nt_nI (by omega)
      have eb : nt (nI b) = b := nt_nI (by omega)
      refine x_iload_n C dX3_friends_16 17 rfl rfl ?_
      refine x_iload_n C dX3_friends_17 18 rfl rfl ?_
      refine x_icmpeq C dX3_friends_18 21 39 rfl (by decide) (fun h18 => ?_) (fun h18 => ?_)
      ·
        refine x_ic (j := 0) C dX3_friends_39 40 rfl ?_
        exact x_zret C dX3_friends_40 (Nat.le_refl _) (Nat.le_refl _) rfl (Qm_of (by simp [sp_friends, h18, no0]))
      · refine x_aloadr_n C dX3_friends_21 22 rfl rfl ?_
        refine x_getr C fl_X3_33 (Or.inr ⟨_, rfl⟩) dX3_friends_22 25 rfl hS.1 (twR_isGone hS) ?_
        refine x_iload_n C dX3_friends_25 26 rfl rfl ?_
        refine x_zald C dX3_friends_26 27 rfl (twA_isGone hS) (twN_isGone hS) rfl (by omega) (by decide) rfl ?_
        refine x_ifne C dX3_friends_27 30 39 rfl (by decide) (fun h27 => ?_) (fun h27 => ?_)
        ·
          refine x_ic (j := 0) C dX3_friends_39 40 rfl ?_
          exact x_zret C dX3_friends_40 (Nat.le_refl _) (Nat.le_refl _) rfl (Qm_of (by simp [sp_friends, ea, h27, no0]))
        · refine x_aloadr_n C dX3_friends_30 31 rfl rfl ?_
          refine x_getr C fl_X3_33 (Or.inr ⟨_, rfl⟩) dX3_friends_31 34 rfl hS.1 (twR_isGone hS) ?_
          refine x_iload_n C dX3_friends_34 35 rfl rfl ?_
          refine x_zald C dX3_friends_35 36 rfl (twA_isGone hS) (twN_isGone hS) rfl (by omega) (by decide) rfl ?_
          refine x_ifeq C dX3_friends_36 39 41 rfl (by decide) (fun h36 => ?_) (fun h36 => ?_)
          · refine x_iload_n C dX3_friends_41 42 rfl rfl ?_
            refine x_ifeqZ C dX3_friends_42 45 68 rfl (by decide) (fun h42 => ?_) (fun h42 => ?_)
            · refine x_aloadr_n C dX3_friends_68 69 rfl rfl ?_
              refine x_getr C fl_X3_36 (Or.inr ⟨_, rfl⟩) dX3_friends_69 72 rfl hS.1 (twR_friend hS) ?_
              refine x_iload_n C dX3_friends_72 73 rfl rfl ?_
              refine x_iald C dX3_friends_73 74 rfl (twA_friend hS) (twN_friend hS) rfl (by omega) (by decide) rfl ?_
              refine x_iload_n C dX3_friends_74 75 rfl rfl ?_
              refine x_icmpeq C dX3_friends_75 78 80 rfl (by decide) (fun h75 => ?_) (fun h75 => ?_)
              ·
                refine x_aloadr_n C dX3_friends_80 81 rfl rfl ?_
                refine x_getr C fl_X3_36 (Or.inr ⟨_, rfl⟩) dX3_friends_81 84 rfl hS.1 (twR_friend hS) ?_
                refine x_iload_n C dX3_friends_84 85 rfl rfl ?_
                refine x_iload_n C dX3_friends_85 86 rfl rfl ?_
                refine x_ifeqZ C dX3_friends_86 89 93 rfl (by decide) (fun _ => ?_) (fun h86 => absurd h86 (by rw [h42]; decide))
                refine x_icm C dX3_friends_93 94 rfl ?_
                refine x_iast C dX3_friends_94 95 rfl (twA_friend hS) (twN_friend hS) rfl (by omega) (by decide) ?_
                refine x_aloadr_n C dX3_friends_95 96 rfl rfl ?_
                refine x_getr C fl_X3_36 (Or.inr ⟨_, rfl⟩) dX3_friends_96 99 rfl hS.1 (twR_friend hS) ?_
                refine x_iload_n C dX3_friends_99 100 rfl rfl ?_
                refine x_iload_n C dX3_friends_100 101 rfl rfl ?_
                refine x_ifeqZ C dX3_friends_101 104 108 rfl (by decide) (fun _ => ?_) (fun h101 => absurd h101 (by rw [h42]; decide))
                refine x_icm C dX3_friends_108 109 rfl ?_
                refine x_iast C dX3_friends_109 110 rfl (twA_friend hS) (twN_friend hS) rfl (by omega) (by decide) ?_
                refine x_ic (j := 1) C dX3_friends_110 111 rfl ?_
                exact x_zret C dX3_friends_111 (Nat.le_refl _) (Nat.le_refl _) rfl (Qm_of (by simp [sp_friends, h5, h13, h18, ea, eb, h27, h36, h42, h75]))
              ·
                refine x_ic (j := 0) C dX3_friends_78 79 rfl ?_
                exact x_zret C dX3_friends_79 (Nat.le_refl _) (Nat.le_refl _) rfl (Qm_of (by simp [sp_friends, ea, eb, h42, h75, no0]))
            · refine x_aloadr_n C dX3_friends_45 46 rfl rfl ?_
              refine x_getr C fl_X3_36 (Or.inr ⟨_, rfl⟩) dX3_friends_46 49 rfl hS.1 (twR_friend hS) ?_
              refine x_iload_n C dX3_friends_49 50 rfl rfl ?_
              refine x_iald C dX3_friends_50 51 rfl (twA_friend hS) (twN_friend hS) rfl (by omega) (by decide) rfl ?_
              refine x_icm C dX3_friends_51 52 rfl ?_
              refine x_icmpne C dX3_friends_52 55 78 rfl (by decide) (fun h52 => ?_) (fun h52 => ?_)
              ·
                refine x_ic (j := 0) C dX3_friends_78 79 rfl ?_
                exact x_zret C dX3_friends_79 (Nat.le_refl _) (Nat.le_refl _) rfl (Qm_of (by simp [sp_friends, ea, eb, h42, h52, no0]))
              · refine x_aloadr_n C dX3_friends_55 56 rfl rfl ?_
                refine x_getr C fl_X3_36 (Or.inr ⟨_, rfl⟩) dX3_friends_56 59 rfl hS.1 (twR_friend hS) ?_
                refine x_iload_n C dX3_friends_59 60 rfl rfl ?_
                refine x_iald C dX3_friends_60 61 rfl (twA_friend hS) (twN_friend hS) rfl (by omega) (by decide) rfl ?_
                refine x_icm C dX3_friends_61 62 rfl ?_
                refine x_icmpeq C dX3_friends_62 65 80 rfl (by decide) (fun h62 => ?_) (fun h62 => ?_)
                ·
                  refine x_aloadr_n C dX3_friends_80 81 rfl rfl ?_
                  refine x_getr C fl_X3_36 (Or.inr ⟨_, rfl⟩) dX3_friends_81 84 rfl hS.1 (twR_friend hS) ?_
                  refine x_iload_n C dX3_friends_84 85 rfl rfl ?_
                  refine x_iload_n C dX3_friends_85 86 rfl rfl ?_
                  refine x_ifeqZ C dX3_friends_86 89 93 rfl (by decide) (fun h86 => absurd h86 (by rw [h42]; decide)) (fun _ => ?_)
                  refine x_iload_n C dX3_friends_89 90 rfl rfl ?_
                  refine x_goto C dX3_friends_90 94 (by decide) ?_
                  refine x_iast C dX3_friends_94 95 rfl (twA_friend hS) (twN_friend hS) rfl (by omega) (by decide) ?_
                  refine x_aloadr_n C dX3_friends_95 96 rfl rfl ?_
                  refine x_getr C fl_X3_36 (Or.inr ⟨_, rfl⟩) dX3_friends_96 99 rfl hS.1 (twR_friend hS) ?_
                  refine x_iload_n C dX3_friends_99 100 rfl rfl ?_
                  refine x_iload_n C dX3_friends_100 101 rfl rfl ?_
                  refine x_ifeqZ C dX3_friends_101 104 108 rfl (by decide) (fun h101 => absurd h101 (by rw [h42]; decide)) (fun _ => ?_)
                  refine x_iload_n C dX3_friends_104 105 rfl rfl ?_
                  refine x_goto C dX3_friends_105 109 (by decide) ?_
                  refine x_iast C dX3_friends_109 110 rfl (twA_friend hS) (twN_friend hS) rfl (by omega) (by decide) ?_
                  refine x_ic (j := 1) C dX3_friends_110 111 rfl ?_
                  exact x_zret C dX3_friends_111 (Nat.le_refl _) (Nat.le_refl _) rfl (Qm_of (by simp [sp_friends, h5, h13, h18, ea, eb, h27, h36, h42, h52, h62]))
                ·
                  refine x_goto C dX3_friends_65 78 (by decide) ?_
                  refine x_ic (j := 0) C dX3_friends_78 79 rfl ?_
                  exact x_zret C dX3_friends_79 (Nat.le_refl _) (Nat.le_refl _) rfl (Qm_of (by simp [sp_friends, ea, eb, h42, h62, no0]))
          ·
            refine x_ic (j := 0) C dX3_friends_39 40 rfl ?_
            exact x_zret C dX3_friends_40 (Nat.le_refl _) (Nat.le_refl _) rfl (Qm_of (by simp [sp_friends, eb, h36, no0]))
theorem kX3_bar (hS : twS S) {a b : Int32} {is : Bool} {n : Nat} (hn : I 473 1 = nI n) (hn2 : n ≤ 10) : Ct w l yX3_bar cX3_bar 4 (some .boolean) 3 0 0 [.ref 473, .int a, .int b, .int (bz is)] S I J (Qm (sp_bar I a b is) S J) := by
  refine Ct.of [some _, some _, some _, some _] rfl (Nat.le_of_ble_eq_true rfl) (by decide) ?_
  intro κ hκ C
  subst hκ
  refine x_aloadr_n C dX3_bar_0 1 rfl rfl ?_
  refine x_iload_n C dX3_bar_1 2 rfl rfl ?_
  refine x_callV C lk_X3_177 dX3_bar_2 5 rfl [_] [] rfl rfl hS.1 (Nat.le_of_ble_eq_true rfl) (by decide) (Nat.le_refl _) (Nat.le_refl _) (kX3_isPerson hS) ?_
  rintro _ _ _ _ ⟨rfl, rfl, rfl, rfl⟩
  refine x_ifeqZ C dX3_bar_5 8 36 rfl (by decide) (fun h5 => ?_) (fun h5 => ?_)
  ·
    refine x_ic (j := 0) C dX3_bar_36 37 rfl ?_
    exact x_zret C dX3_bar_37 (Nat.le_refl _) (Nat.le_refl _) rfl (Qm_of (by simp [sp_bar, h5, no0]))
  · refine x_aloadr_n C dX3_bar_8 9 rfl rfl ?_
    refine x_iload_n C dX3_bar_9 10 rfl rfl ?_
    refine x_callV C lk_X3_177 dX3_bar_10 13 rfl [_] [] rfl rfl hS.1 (Nat.le_of_ble_eq_true rfl) (by decide) (Nat.le_refl _) (Nat.le_refl _) (kX3_isPerson hS) ?_
    rintro _ _ _ _ ⟨rfl, rfl, rfl, rfl⟩
    refine x_ifeqZ C dX3_bar_13 16 36 rfl (by decide) (fun h13 => ?_) (fun h13 => ?_)
    ·
      refine x_ic (j := 0) C dX3_bar_36 37 rfl ?_
      exact x_zret C dX3_bar_37 (Nat.le_refl _) (Nat.le_refl _) rfl (Qm_of (by simp [sp_bar, h13, no0]))
    · obtain ⟨a, ha, rfl⟩ := pe_of hn hn2 h5
      obtain ⟨b, hb, rfl⟩ := pe_of hn hn2 h13
      have ea : nt (nI a) = a := nt_nI (by omega)
      have eb : nt (nI b) = b := nt_nI (by omega)
      refine x_iload_n C dX3_bar_16 17 rfl rfl ?_
      refine x_iload_n C dX3_bar_17 18 rfl rfl ?_
      refine x_icmpeq C dX3_bar_18 21 36 rfl (by decide) (fun h18 => ?_) (fun h18 => ?_)
      ·
        refine x_ic (j := 0) C dX3_bar_36 37 rfl ?_
        exact x_zret C dX3_bar_37 (Nat.le_refl _) (Nat.le_refl _) rfl (Qm_of (by simp [sp_bar, h18, no0]))
      · refine x_aloadr_n C dX3_bar_21 22 rfl rfl ?_
        refine x_getr C fl_X3_39 (Or.inr ⟨_, rfl⟩) dX3_bar_22 25 rfl hS.1 (twR_bars hS) ?_
        refine x_bip (j := 10) C dX3_bar_25 27 rfl (by decide) ?_
        refine x_iload_n C dX3_bar_27 28 rfl rfl ?_
        refine x_imul C dX3_bar_28 29 rfl (pk_mul _ _) ?_
        refine x_iload_n C dX3_bar_29 30 rfl rfl ?_
        refine x_iadd C dX3_bar_30 31 rfl (nI_add _ _) ?_
        refine x_zald C dX3_bar_31 32 rfl (twA_bars hS) (twN_bars hS) rfl (by omega) (by decide) rfl ?_
        refine x_iload_n C dX3_bar_32 33 rfl rfl ?_
        refine x_icmpne C dX3_bar_33 36 38 rfl (by decide) (fun h33 => ?_) (fun h33 => ?_)
        ·
          refine x_aloadr_n C dX3_bar_38 39 rfl rfl ?_
          refine x_getr C fl_X3_39 (Or.inr ⟨_, rfl⟩) dX3_bar_39 42 rfl hS.1 (twR_bars hS) ?_
          refine x_bip (j := 10) C dX3_bar_42 44 rfl (by decide) ?_
          refine x_iload_n C dX3_bar_44 45 rfl rfl ?_
          refine x_imul C dX3_bar_45 46 rfl (pk_mul _ _) ?_
          refine x_iload_n C dX3_bar_46 47 rfl rfl ?_
          refine x_iadd C dX3_bar_47 48 rfl (nI_add _ _) ?_
          refine x_iload_n C dX3_bar_48 49 rfl rfl ?_
          refine x_zast C dX3_bar_49 50 rfl (twA_bars hS) (twN_bars hS) rfl (by omega) (by decide) (bz_nar _) ?_
          refine x_aloadr_n C dX3_bar_50 51 rfl rfl ?_
          refine x_getr C fl_X3_39 (Or.inr ⟨_, rfl⟩) dX3_bar_51 54 rfl hS.1 (twR_bars hS) ?_
          refine x_bip (j := 10) C dX3_bar_54 56 rfl (by decide) ?_
          refine x_iload_n C dX3_bar_56 57 rfl rfl ?_
          refine x_imul C dX3_bar_57 58 rfl (pk_mul _ _) ?_
          refine x_iload_n C dX3_bar_58 59 rfl rfl ?_
          refine x_iadd C dX3_bar_59 60 rfl (nI_add _ _) ?_
          refine x_iload_n C dX3_bar_60 61 rfl rfl ?_
          refine x_zast C dX3_bar_61 62 rfl (twA_bars hS) (twN_bars hS) rfl (by omega) (by decide) (bz_nar _) ?_
          refine x_ic (j := 1) C dX3_bar_62 63 rfl ?_
          exact x_zret C dX3_bar_63 (Nat.le_refl _) (Nat.le_refl _) rfl (Qm_of (by simp [sp_bar, h5, h13, h18, ea, eb, h33]))
        ·
          refine x_ic (j := 0) C dX3_bar_36 37 rfl ?_
          exact x_zret C dX3_bar_37 (Nat.le_refl _) (Nat.le_refl _) rfl (Qm_of (by simp [sp_bar, ea, eb, h33, no0]))
theorem kX3_absent (hS : twS S) {p k : Int32} {is : Bool} {n c q : Nat} (hn : I 473 1 = nI n) (hn2 : n ≤ 10) (hc : I 473 13 = nI c) (hc2 : c ≤ 30) (hq : I 473 12 = nI q) (hq2 : q ≤ 30) : Ct w l yX3_absent cX3_absent 4 (some .boolean) 3 0 0 [.ref 473, .int p, .int k, .int (bz is)] S I J (Qm (sp_absent I p k is) S J) := by
  refine Ct.of [some _, some _, some _, some _] rfl (Nat.le_of_ble_eq_true rfl) (by decide) ?_
  intro κ hκ C
  subst hκ
  refine x_aloadr_n C dX3_absent_0 1 rfl rfl ?_
  refine x_iload_n C dX3_absent_1 2 rfl rfl ?_
  refine x_callV C lk_X3_177 dX3_absent_2 5 rfl [_] [] rfl rfl hS.1 (Nat.le_of_ble_eq_true rfl) (by decide) (Nat.le_refl _) (Nat.le_refl _) (kX3_isPerson hS) ?_
  rintro _ _ _ _ ⟨rfl, rfl, rfl, rfl⟩
  refine x_ifeqZ C dX3_absent_5 8 25 rfl (by decide) (fun h5 => ?_) (fun h5 => ?_)
  ·
    refine x_ic (j := 0) C dX3_absent_25 26 rfl ?_
    exact x_zret C dX3_absent_26 (Nat.le_refl _) (Nat.le_refl _) rfl (Qm_of (by simp [sp_absent, h5, no0]))
  · refine x_iload_n C dX3_absent_8 9 rfl rfl ?_
    refine x_aloadr_n C dX3_absent_9 10 rfl rfl ?_
    refine x_geti C fl_X3_167 (Or.inl rfl) dX3_absent_10 13 rfl hS.1 rfl ?_
    refine x_aloadr_n C dX3_absent_13 14 rfl rfl ?_
    refine x_geti C fl_X3_192 (Or.inl rfl) dX3_absent_14 17 rfl hS.1 rfl ?_
    refine x_ic (j := 1) C dX3_absent_17 18 rfl ?_
    refine x_isub C dX3_absent_18 19 rfl rfl ?_
    refine x_callS C lk_X3_160 dX3_absent_19 22 rfl [_, _, _] [] rfl rfl (Nat.le_of_ble_eq_true rfl) (by decide) (Nat.le_refl _) (Nat.le_refl _) kX3_in ?_
    rintro _ _ _ _ ⟨rfl, rfl, rfl, rfl⟩
    refine x_ifneZ C dX3_absent_22 25 27 rfl (by decide) (fun h22 => ?_) (fun h22 => ?_)
    · have h22' := h22
      obtain ⟨g1, g2⟩ := inB_iff.mp h22
      obtain ⟨p, hp, rfl⟩ := pe_of hn hn2 h5
      have h22c : inB k (nI 0) (nI q - nI 1) = true := inB_iff.mpr ⟨Int32.le_trans (by rw [hc]; exact nI_le (Nat.zero_le _) (by omega)) g1, by rw [← hq]; exact g2⟩
      obtain ⟨k, hk, rfl⟩ := in_of h22c (by omega)
      have ea : nt (nI p) = p := nt_nI (by omega)
      have eb : nt (nI k) = k := nt_nI (by omega)
      refine x_aloadr_n C dX3_absent_27 28 rfl rfl ?_
      refine x_getr C fl_X3_78 (Or.inr ⟨_, rfl⟩) dX3_absent_28 31 rfl hS.1 (twR_isAbsent hS) ?_
      refine x_bip (j := 10) C dX3_absent_31 33 rfl (by decide) ?_
      refine x_iload_n C dX3_absent_33 34 rfl rfl ?_
      refine x_imul C dX3_absent_34 35 rfl (pk_mul _ _) ?_
      refine x_iload_n C dX3_absent_35 36 rfl rfl ?_
      refine x_iadd C dX3_absent_36 37 rfl (nI_add _ _) ?_
      refine x_iload_n C dX3_absent_37 38 rfl rfl ?_
      refine x_zast C dX3_absent_38 39 rfl (twA_isAbsent hS) (twN_isAbsent hS) rfl (by omega) (by decide) (bz_nar _) ?_
      refine x_ic (j := 1) C dX3_absent_39 40 rfl ?_
      exact x_zret C dX3_absent_40 (Nat.le_refl _) (Nat.le_refl _) rfl (Qm_of (by simp [sp_absent, h5, h22', ea, eb]))
    ·
      refine x_ic (j := 0) C dX3_absent_25 26 rfl ?_
      exact x_zret C dX3_absent_26 (Nat.le_refl _) (Nat.le_refl _) rfl (Qm_of (by simp [sp_absent, h22, no0]))
theorem kX3_room (hS : twS S) {t b pr : Int32} {lo : Bool} {m : Nat} (hm : I 473 11 = nI m) (hm2 : m ≤ 6) (hr : ∀ t, t < m → ∃ r, r ≤ 10 ∧ I 485 t = nI r) : Ct w l yX3_room cX3_room 6 (some .int) 4 0 0 [.ref 473, .int t, .int b, .int (bz lo), .int pr] S I J (Qm (sp_room I t b lo pr) S J) := by
  refine Ct.of [some _, some _, some _, some _, some _, none] rfl (Nat.le_of_ble_eq_true rfl) (by decide) ?_
  intro κ hκ C
  subst hκ
  refine x_aloadr_n C dX3_room_0 1 rfl rfl ?_
  refine x_iload_n C dX3_room_1 2 rfl rfl ?_
  refine x_callV C lk_X3_198 dX3_room_2 5 rfl [_] [] rfl rfl hS.1 (Nat.le_of_ble_eq_true rfl) (by decide) (Nat.le_refl _) (Nat.le_refl _) (kX3_isOpenI hS hm hm2) ?_
  rintro _ _ _ _ ⟨rfl, rfl, rfl, rfl⟩
  refine x_ifeqZ C dX3_room_5 8 40 rfl (by decide) (fun h5 => ?_) (fun h5 => ?_)
  ·
    refine x_icm C dX3_room_40 41 rfl ?_
    exact x_iret C dX3_room_41 (Nat.le_refl _) (Nat.le_refl _) (Qm_of (by simp [sp_room, h5, no1]))
  · have ht : toB I t = true := by
      unfold opB at h5
      simp at h5
      exact h5.1
    obtain ⟨t, ht2, rfl⟩ := to_of hm hm2 ht
    obtain ⟨r, hr2, hr3⟩ := hr t ht2
    have et : nt (nI t) = t := nt_nI (by omega)
    have er : nt (I 485 t) = r := nt_of hr3 (by omega)
    refine x_iload_n C dX3_room_8 9 rfl rfl ?_
    refine x_ic (j := 1) C dX3_room_9 10 rfl ?_
    refine x_ic (j := 2) C dX3_room_10 11 rfl ?_
    refine x_callS C lk_X3_160 dX3_room_11 14 rfl [_, _, _] [] rfl rfl (Nat.le_of_ble_eq_true rfl) (by decide) (Nat.le_refl _) (Nat.le_refl _) kX3_in ?_
    rintro _ _ _ _ ⟨rfl, rfl, rfl, rfl⟩
    refine x_ifeqZ C dX3_room_14 17 40 rfl (by decide) (fun h14 => ?_) (fun h14 => ?_)
    ·
      refine x_icm C dX3_room_40 41 rfl ?_
      exact x_iret C dX3_room_41 (Nat.le_refl _) (Nat.le_refl _) (Qm_of (by simp [sp_room, h14, no1]))
    · refine x_iload C dX3_room_17 19 rfl rfl ?_
      refine x_ic (j := 1) C dX3_room_19 20 rfl ?_
      refine x_sip (j := 1000) C dX3_room_20 23 rfl (by decide) ?_
      refine x_callS C lk_X3_160 dX3_room_23 26 rfl [_, _, _] [] rfl rfl (Nat.le_of_ble_eq_true rfl) (by decide) (Nat.le_refl _) (Nat.le_refl _) kX3_in ?_
      rintro _ _ _ _ ⟨rfl, rfl, rfl, rfl⟩
      refine x_ifeqZ C dX3_room_26 29 40 rfl (by decide) (fun h26 => ?_) (fun h26 => ?_)
      ·
        refine x_icm C dX3_room_40 41 rfl ?_
        exact x_iret C dX3_room_41 (Nat.le_refl _) (Nat.le_refl _) (Qm_of (by simp [sp_room, h26, no1]))
      ·
        refine x_aloadr_n C dX3_room_29 30 rfl rfl ?_
        refine x_getr C fl_X3_51 (Or.inr ⟨_, rfl⟩) dX3_room_30 33 rfl hS.1 (twR_rooms hS) ?_
        refine x_iload_n C dX3_room_33 34 rfl rfl ?_
        refine x_iald C dX3_room_34 35 rfl (twA_rooms hS) (twN_rooms hS) rfl (by omega) (by decide) hr3 ?_
        refine x_bip (j := 10) C dX3_room_35 37 rfl (by decide) ?_
        refine x_icmpneN C dX3_room_37 40 42 rfl (by decide) (by omega) (by omega) (fun h37 => ?_) (fun h37 => ?_)
        ·
          refine x_bip (j := 10) C dX3_room_42 44 rfl (by decide) ?_
          refine x_iload_n C dX3_room_44 45 rfl rfl ?_
          refine x_imul C dX3_room_45 46 rfl (pk_mul _ _) ?_
          refine x_aloadr_n C dX3_room_46 47 rfl rfl ?_
          refine x_getr C fl_X3_51 (Or.inr ⟨_, rfl⟩) dX3_room_47 50 rfl hS.1 (twR_rooms hS) ?_
          refine x_iload_n C dX3_room_50 51 rfl rfl ?_
          refine x_iald C dX3_room_51 52 rfl (twA_rooms hS) (twN_rooms hS) rfl (by omega) (by decide) hr3 ?_
          refine x_iadd C dX3_room_52 53 rfl (nI_add _ _) ?_
          refine x_istore C dX3_room_53 55 rfl [_, _, _, _, _, _] (by decide) rfl rfl ?_
          refine x_aloadr_n C dX3_room_55 56 rfl rfl ?_
          refine x_getr C fl_X3_54 (Or.inr ⟨_, rfl⟩) dX3_room_56 59 rfl hS.1 (twR_beds hS) ?_
          refine x_iload C dX3_room_59 61 rfl rfl ?_
          refine x_iload_n C dX3_room_61 62 rfl rfl ?_
          refine x_iast C dX3_room_62 63 rfl (twA_beds hS) (twN_beds hS) rfl (by omega) (by decide) ?_
          refine x_aloadr_n C dX3_room_63 64 rfl rfl ?_
          refine x_getr C fl_X3_57 (Or.inr ⟨_, rfl⟩) dX3_room_64 67 rfl hS.1 (twR_lowRoom hS) ?_
          refine x_iload C dX3_room_67 69 rfl rfl ?_
          refine x_iload_n C dX3_room_69 70 rfl rfl ?_
          refine x_zast C dX3_room_70 71 rfl (twA_lowRoom hS) (twN_lowRoom hS) rfl (by omega) (by decide) (bz_nar _) ?_
          refine x_aloadr_n C dX3_room_71 72 rfl rfl ?_
          refine x_getr C fl_X3_60 (Or.inr ⟨_, rfl⟩) dX3_room_72 75 rfl hS.1 (twR_price hS) ?_
          refine x_iload C dX3_room_75 77 rfl rfl ?_
          refine x_iload C dX3_room_77 79 rfl rfl ?_
          refine x_iast C dX3_room_79 80 rfl (twA_price hS) (twN_price hS) rfl (by omega) (by decide) ?_
          refine x_aloadr_n C dX3_room_80 81 rfl rfl ?_
          refine x_getr C fl_X3_63 (Or.inr ⟨_, rfl⟩) dX3_room_81 84 rfl hS.1 (twR_held hS) ?_
          refine x_iload C dX3_room_84 86 rfl rfl ?_
          refine x_ic (j := 1) C dX3_room_86 87 rfl ?_
          refine x_zast C dX3_room_87 88 rfl (twA_held hS) (twN_held hS) rfl (by omega) (by decide) rfl ?_
          refine x_aloadr_n C dX3_room_88 89 rfl rfl ?_
          refine x_getr C fl_X3_51 (Or.inr ⟨_, rfl⟩) dX3_room_89 92 rfl hS.1 (twR_rooms hS) ?_
          refine x_iload_n C dX3_room_92 93 rfl rfl ?_
          refine x_dup2 C dX3_room_93 94 rfl ⟨rfl, rfl⟩ ?_
          refine x_iald C dX3_room_94 95 rfl (twA_rooms hS) (twN_rooms hS) rfl (by omega) (by decide) hr3 ?_
          refine x_ic (j := 1) C dX3_room_95 96 rfl ?_
          refine x_iadd C dX3_room_96 97 rfl (nI_add _ _) ?_
          refine x_iast C dX3_room_97 98 rfl (twA_rooms hS) (twN_rooms hS) rfl (by omega) (by decide) ?_
          refine x_aloadr_n C dX3_room_98 99 rfl rfl ?_
          refine x_getr C fl_X3_51 (Or.inr ⟨_, rfl⟩) dX3_room_99 102 rfl hS.1 (twR_rooms hS) ?_
          refine x_iload_n C dX3_room_102 103 rfl rfl ?_
          refine x_iald C dX3_room_103 104 rfl (twA_rooms hS) (twN_rooms hS) rfl (by omega) (by decide) (sto_ss _ _ _ _) ?_
          refine x_ic (j := 1) C dX3_room_104 105 rfl ?_
          refine x_isub C dX3_room_105 106 rfl (pk_sub (by omega)) ?_
          exact x_iret C dX3_room_106 (Nat.le_refl _) (Nat.le_refl _) (Qm_of (by unfold sp_room; rw [if_pos (by simp [h5, h14, h26, et, hr3, nI_eq (show r < 2 ^ 31 by omega) (show 10 < 2 ^ 31 by decide), h37]), et, er, hr3, nI_add, Nat.add_sub_cancel]))
        ·
          refine x_icm C dX3_room_40 41 rfl ?_
          exact x_iret C dX3_room_41 (Nat.le_refl _) (Nat.le_refl _) (Qm_of (by simp [sp_room, et, hr3, h37, no1]))
end Tw3

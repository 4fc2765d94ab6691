/-! the twin: small methods -/
theorem b1 {b : Bool} (h : b = true) : some (Value.int (nI 1)) = some (.int (bz b)) := by rw [h]; rfl
theorem b0 {b : Bool} (h : b = false) : some (Value.int (nI 0)) = some (.int (bz b)) := by rw [h]; rfl
def inB (v lo hi : Int32) : Bool := decide (lo ≤ v) && decide (v ≤ hi)
theorem inB_lt {v lo hi : Int32} (h : v < lo) : inB v lo hi = false := by
  unfold inB
  rw [decide_eq_false (Int32.not_le.mpr h)]
  rfl
theorem inB_gt {v lo hi : Int32} (h : hi < v) : inB v lo hi = false := by
  unfold inB
  rw [decide_eq_false (p := v ≤ hi) (Int32.not_le.mpr h), Bool.and_false]
theorem inB_t {v lo hi : Int32} (h1 : ¬ v < lo) (h2 : ¬ hi < v) : inB v lo hi = true := by
  unfold inB
  rw [decide_eq_true (Int32.not_lt.mp h1), decide_eq_true (Int32.not_lt.mp h2)]
  rfl
theorem inB_iff {v lo hi : Int32} : inB v lo hi = true ↔ lo ≤ v ∧ v ≤ hi := by
  unfold inB
  simp
def peB (I : Mi) (p : Int32) : Bool := inB p (nI 0) (I 473 1 - nI 1)
def toB (I : Mi) (t : Int32) : Bool := inB t (nI 0) (I 473 11 - nI 1)
section Tw1
variable {w : Wd} {l : Launch} {S : Sh} {I : Mi} {J : Ml}
theorem kX3_in {v lo hi : Int32} : Ct w l yX3_in cX3_in 3 (some .boolean) 1 0 0 [.int v, .int lo, .int hi] S I J (Qe (some (.int (bz (inB v lo hi)))) S I J) := by
  refine Ct.of [some _, some _, some _] rfl (Nat.le_of_ble_eq_true rfl) (by decide) ?_
  intro κ hκ C
  subst hκ
  refine x_iload_n C dX3_in_0 1 rfl rfl ?_
  refine x_iload_n C dX3_in_1 2 rfl rfl ?_
  refine x_icmplt C dX3_in_2 5 14 rfl (by decide) (fun h2 => ?_) (fun h2 => ?_)
  ·
    refine x_ic (j := 0) C dX3_in_14 15 rfl ?_
    exact x_zret C dX3_in_15 (Nat.le_refl _) (Nat.le_refl _) rfl ⟨b0 (inB_lt h2), rfl, rfl, rfl⟩
  · refine x_iload_n C dX3_in_5 6 rfl rfl ?_
    refine x_iload_n C dX3_in_6 7 rfl rfl ?_
    refine x_icmpgt C dX3_in_7 10 14 rfl (by decide) (fun h7 => ?_) (fun h7 => ?_)
    ·
      refine x_ic (j := 0) C dX3_in_14 15 rfl ?_
      exact x_zret C dX3_in_15 (Nat.le_refl _) (Nat.le_refl _) rfl ⟨b0 (inB_gt h7), rfl, rfl, rfl⟩
    ·
      refine x_ic (j := 1) C dX3_in_10 11 rfl ?_
      refine x_goto C dX3_in_11 15 (by decide) ?_
      exact x_zret C dX3_in_15 (Nat.le_refl _) (Nat.le_refl _) rfl ⟨b1 (inB_t h2 h7), rfl, rfl, rfl⟩
theorem kX3_isPerson (hS : twS S) {p : Int32} : Ct w l yX3_isPerson cX3_isPerson 2 (some .boolean) 2 0 0 [.ref 473, .int p] S I J (Qe (some (.int (bz (peB I p)))) S I J) := by
  refine Ct.of [some _, some _] rfl (Nat.le_of_ble_eq_true rfl) (by decide) ?_
  intro κ hκ C
  subst hκ
  refine x_iload_n C dX3_isPerson_0 1 rfl rfl ?_
  refine x_ic (j := 0) C dX3_isPerson_1 2 rfl ?_
  refine x_aloadr_n C dX3_isPerson_2 3 rfl rfl ?_
  refine x_geti C fl_X3_157 (Or.inl rfl) dX3_isPerson_3 6 rfl hS.1 rfl ?_
  refine x_ic (j := 1) C dX3_isPerson_6 7 rfl ?_
  refine x_isub C dX3_isPerson_7 8 rfl rfl ?_
  refine x_callS C lk_X3_160 dX3_isPerson_8 11 rfl [_, _, _] [] rfl rfl (Nat.le_of_ble_eq_true rfl) (by decide) (Nat.le_refl _) (Nat.le_refl _) kX3_in ?_
  rintro _ _ _ _ ⟨rfl, rfl, rfl, rfl⟩
  exact x_zret C dX3_isPerson_11 (Nat.le_refl _) (Nat.le_refl _) (bz_nar _) ⟨rfl, rfl, rfl, rfl⟩
theorem kX3_isTown (hS : twS S) {t : Int32} : Ct w l yX3_isTown cX3_isTown 2 (some .boolean) 2 0 0 [.ref 473, .int t] S I J (Qe (some (.int (bz (toB I t)))) S I J) := by
  refine Ct.of [some _, some _] rfl (Nat.le_of_ble_eq_true rfl) (by decide) ?_
  intro κ hκ C
  subst hκ
  refine x_iload_n C dX3_isTown_0 1 rfl rfl ?_
  refine x_ic (j := 0) C dX3_isTown_1 2 rfl ?_
  refine x_aloadr_n C dX3_isTown_2 3 rfl rfl ?_
  refine x_geti C fl_X3_164 (Or.inl rfl) dX3_isTown_3 6 rfl hS.1 rfl ?_
  refine x_ic (j := 1) C dX3_isTown_6 7 rfl ?_
  refine x_isub C dX3_isTown_7 8 rfl rfl ?_
  refine x_callS C lk_X3_160 dX3_isTown_8 11 rfl [_, _, _] [] rfl rfl (Nat.le_of_ble_eq_true rfl) (by decide) (Nat.le_refl _) (Nat.le_refl _) kX3_in ?_
  rintro _ _ _ _ ⟨rfl, rfl, rfl, rfl⟩
  exact x_zret C dX3_isTown_11 (Nat.le_refl _) (Nat.le_refl _) (bz_nar _) ⟨rfl, rfl, rfl, rfl⟩
def ovB (I : Mi) (t : Nat) : Bool := decide (I 484 t + I 483 t ≤ I 473 13)
theorem kX3_isOver (hS : twS S) {t : Nat} (ht : t < 6) : Ct w l yX3_isOver cX3_isOver 2 (some .boolean) 1 0 0 [.ref 473, .int (nI t)] S I J (Qe (some (.int (bz (ovB I t)))) S I J) := by
  refine Ct.of [some _, some _] rfl (Nat.le_of_ble_eq_true rfl) (by decide) ?_
  intro κ hκ C
  subst hκ
  refine x_aloadr_n C dX3_isOver_0 1 rfl rfl ?_
  refine x_geti C fl_X3_167 (Or.inl rfl) dX3_isOver_1 4 rfl hS.1 rfl ?_
  refine x_aloadr_n C dX3_isOver_4 5 rfl rfl ?_
  refine x_getr C fl_X3_48 (Or.inr ⟨_, rfl⟩) dX3_isOver_5 8 rfl hS.1 (twR_first hS) ?_
  refine x_iload_n C dX3_isOver_8 9 rfl rfl ?_
  refine x_iald C dX3_isOver_9 10 rfl (twA_first hS) (twN_first hS) rfl (by omega) (by decide) rfl ?_
  refine x_aloadr_n C dX3_isOver_10 11 rfl rfl ?_
  refine x_getr C fl_X3_45 (Or.inr ⟨_, rfl⟩) dX3_isOver_11 14 rfl hS.1 (twR_long0 hS) ?_
  refine x_iload_n C dX3_isOver_14 15 rfl rfl ?_
  refine x_iald C dX3_isOver_15 16 rfl (twA_long0 hS) (twN_long0 hS) rfl (by omega) (by decide) rfl ?_
  refine x_iadd C dX3_isOver_16 17 rfl rfl ?_
  refine x_icmplt C dX3_isOver_17 20 24 rfl (by decide) (fun h17 => ?_) (fun h17 => ?_)
  ·
    refine x_ic (j := 0) C dX3_isOver_24 25 rfl ?_
    exact x_zret C dX3_isOver_25 (Nat.le_refl _) (Nat.le_refl _) rfl ⟨b0 (decide_eq_false (Int32.not_le.mpr h17)), rfl, rfl, rfl⟩
  ·
    refine x_ic (j := 1) C dX3_isOver_20 21 rfl ?_
    refine x_goto C dX3_isOver_21 25 (by decide) ?_
    exact x_zret C dX3_isOver_25 (Nat.le_refl _) (Nat.le_refl _) rfl ⟨b1 (decide_eq_true (Int32.not_lt.mp h17)), rfl, rfl, rfl⟩
theorem kX3_isOpen (hS : twS S) {t : Nat} (ht : t < 6) : Ct w l yX3_isOpen cX3_isOpen 2 (some .boolean) 3 0 0 [.ref 473, .int (nI t)] S I J (Qe (some (.int (bz (toB I (nI t) && !ovB I t)))) S I J) := by
  refine Ct.of [some _, some _] rfl (Nat.le_of_ble_eq_true rfl) (by decide) ?_
  intro κ hκ C
  subst hκ
  refine x_aloadr_n C dX3_isOpen_0 1 rfl rfl ?_
  refine x_iload_n C dX3_isOpen_1 2 rfl rfl ?_
  refine x_callV C lk_X3_170 dX3_isOpen_2 5 rfl [_] [] rfl rfl hS.1 (Nat.le_of_ble_eq_true rfl) (by decide) (Nat.le_refl _) (Nat.le_refl _) (kX3_isTown hS) ?_
  rintro _ _ _ _ ⟨rfl, rfl, rfl, rfl⟩
  refine x_ifeqZ C dX3_isOpen_5 8 20 rfl (by decide) (fun h5 => ?_) (fun h5 => ?_)
  ·
    refine x_ic (j := 0) C dX3_isOpen_20 21 rfl ?_
    exact x_zret C dX3_isOpen_21 (Nat.le_refl _) (Nat.le_refl _) rfl ⟨b0 (by rw [h5]; rfl), rfl, rfl, rfl⟩
  · refine x_aloadr_n C dX3_isOpen_8 9 rfl rfl ?_
    refine x_iload_n C dX3_isOpen_9 10 rfl rfl ?_
    refine x_callV C lk_X3_174 dX3_isOpen_10 13 rfl [_] [] rfl rfl hS.1 (Nat.le_of_ble_eq_true rfl) (by decide) (Nat.le_refl _) (Nat.le_refl _) (kX3_isOver hS ht) ?_
    rintro _ _ _ _ ⟨rfl, rfl, rfl, rfl⟩
    refine x_ifneZ C dX3_isOpen_13 16 20 rfl (by decide) (fun h13 => ?_) (fun h13 => ?_)
    ·
      refine x_ic (j := 0) C dX3_isOpen_20 21 rfl ?_
      exact x_zret C dX3_isOpen_21 (Nat.le_refl _) (Nat.le_refl _) rfl ⟨b0 (by rw [h5, h13]; rfl), rfl, rfl, rfl⟩
    ·
      refine x_ic (j := 1) C dX3_isOpen_16 17 rfl ?_
      refine x_goto C dX3_isOpen_17 21 (by decide) ?_
      exact x_zret C dX3_isOpen_21 (Nat.le_refl _) (Nat.le_refl _) rfl ⟨b1 (by rw [h5, h13]; rfl), rfl, rfl, rfl⟩
/-- out of the towns -/
theorem kX3_isOpenX (hS : twS S) {t : Int32} (ht : toB I t = false) : Ct w l yX3_isOpen cX3_isOpen 2 (some .boolean) 3 0 0 [.ref 473, .int t] S I J (Qe (some (.int (bz false))) S I J) := by
  refine Ct.of [some _, some _] rfl (Nat.le_of_ble_eq_true rfl) (by decide) ?_
  intro κ hκ C
  subst hκ
  refine x_aloadr_n C dX3_isOpen_0 1 rfl rfl ?_
  refine x_iload_n C dX3_isOpen_1 2 rfl rfl ?_
  refine x_callV C lk_X3_170 dX3_isOpen_2 5 rfl [_] [] rfl rfl hS.1 (Nat.le_of_ble_eq_true rfl) (by decide) (Nat.le_refl _) (Nat.le_refl _) (kX3_isTown hS) ?_
  rintro _ _ _ _ ⟨rfl, rfl, rfl, rfl⟩
  refine x_ifeqZ C dX3_isOpen_5 8 20 rfl (by decide) (fun _ => ?_) (fun h5 => absurd h5 (by rw [ht]; decide))
  refine x_ic (j := 0) C dX3_isOpen_20 21 rfl ?_
  exact x_zret C dX3_isOpen_21 (Nat.le_refl _) (Nat.le_refl _) rfl ⟨rfl, rfl, rfl, rfl⟩
def thB (I : Mi) (p : Nat) (t : Int32) : Bool := decide (I 480 p = 0) && decide (I 478 p ≤ t) && decide (t ≤ I 479 p)
theorem kX3_isThere (hS : twS S) {p : Nat} (hp : p < 10) {t : Int32} : Ct w l yX3_isThere cX3_isThere 3 (some .boolean) 1 0 0 [.ref 473, .int (nI p), .int t] S I J (Qe (some (.int (bz (thB I p t)))) S I J) := by
  refine Ct.of [some _, some _, some _] rfl (Nat.le_of_ble_eq_true rfl) (by decide) ?_
  intro κ hκ C
  subst hκ
  refine x_aloadr_n C dX3_isThere_0 1 rfl rfl ?_
  refine x_getr C fl_X3_33 (Or.inr ⟨_, rfl⟩) dX3_isThere_1 4 rfl hS.1 (twR_isGone hS) ?_
  refine x_iload_n C dX3_isThere_4 5 rfl rfl ?_
  refine x_zald C dX3_isThere_5 6 rfl (twA_isGone hS) (twN_isGone hS) rfl (by omega) (by decide) rfl ?_
  refine x_ifne C dX3_isThere_6 9 33 rfl (by decide) (fun h6 => ?_) (fun h6 => ?_)
  ·
    refine x_ic (j := 0) C dX3_isThere_33 34 rfl ?_
    exact x_zret C dX3_isThere_34 (Nat.le_refl _) (Nat.le_refl _) rfl ⟨b0 (by simp [thB, h6]), rfl, rfl, rfl⟩
  · refine x_aloadr_n C dX3_isThere_9 10 rfl rfl ?_
    refine x_getr C fl_X3_27 (Or.inr ⟨_, rfl⟩) dX3_isThere_10 13 rfl hS.1 (twR_from hS) ?_
    refine x_iload_n C dX3_isThere_13 14 rfl rfl ?_
    refine x_iald C dX3_isThere_14 15 rfl (twA_from hS) (twN_from hS) rfl (by omega) (by decide) rfl ?_
    refine x_iload_n C dX3_isThere_15 16 rfl rfl ?_
    refine x_icmpgt C dX3_isThere_16 19 33 rfl (by decide) (fun h16 => ?_) (fun h16 => ?_)
    ·
      refine x_ic (j := 0) C dX3_isThere_33 34 rfl ?_
      exact x_zret C dX3_isThere_34 (Nat.le_refl _) (Nat.le_refl _) rfl ⟨b0 (by simp [thB, Int32.not_le.mpr h16]), rfl, rfl, rfl⟩
    · refine x_aloadr_n C dX3_isThere_19 20 rfl rfl ?_
      refine x_getr C fl_X3_30 (Or.inr ⟨_, rfl⟩) dX3_isThere_20 23 rfl hS.1 (twR_to hS) ?_
      refine x_iload_n C dX3_isThere_23 24 rfl rfl ?_
      refine x_iald C dX3_isThere_24 25 rfl (twA_to hS) (twN_to hS) rfl (by omega) (by decide) rfl ?_
      refine x_iload_n C dX3_isThere_25 26 rfl rfl ?_
      refine x_icmplt C dX3_isThere_26 29 33 rfl (by decide) (fun h26 => ?_) (fun h26 => ?_)
      ·
        refine x_ic (j := 0) C dX3_isThere_33 34 rfl ?_
        exact x_zret C dX3_isThere_34 (Nat.le_refl _) (Nat.le_refl _) rfl ⟨b0 (by simp [thB, Int32.not_le.mpr h26]), rfl, rfl, rfl⟩
      ·
        refine x_ic (j := 1) C dX3_isThere_29 30 rfl ?_
        refine x_goto C dX3_isThere_30 34 (by decide) ?_
        exact x_zret C dX3_isThere_34 (Nat.le_refl _) (Nat.le_refl _) rfl ⟨b1 (by simp [thB, h6, Int32.not_lt.mp h16, Int32.not_lt.mp h26]), rfl, rfl, rfl⟩
theorem kX3_isRoom (hS : twS S) {t : Nat} (ht : t < 6) {r : Int32} : Ct w l yX3_isRoom cX3_isRoom 3 (some .boolean) 2 0 0 [.ref 473, .int (nI t), .int r] S I J (Qe (some (.int (bz (inB r (nI 0) (I 485 t - nI 1))))) S I J) := by
  refine Ct.of [some _, some _, some _] rfl (Nat.le_of_ble_eq_true rfl) (by decide) ?_
  intro κ hκ C
  subst hκ
  refine x_iload_n C dX3_isRoom_0 1 rfl rfl ?_
  refine x_ic (j := 0) C dX3_isRoom_1 2 rfl ?_
  refine x_aloadr_n C dX3_isRoom_2 3 rfl rfl ?_
  refine x_getr C fl_X3_51 (Or.inr ⟨_, rfl⟩) dX3_isRoom_3 6 rfl hS.1 (twR_rooms hS) ?_
  refine x_iload_n C dX3_isRoom_6 7 rfl rfl ?_
  refine x_iald C dX3_isRoom_7 8 rfl (twA_rooms hS) (twN_rooms hS) rfl (by omega) (by decide) rfl ?_
  refine x_ic (j := 1) C dX3_isRoom_8 9 rfl ?_
  refine x_isub C dX3_isRoom_9 10 rfl rfl ?_
  refine x_callS C lk_X3_160 dX3_isRoom_10 13 rfl [_, _, _] [] rfl rfl (Nat.le_of_ble_eq_true rfl) (by decide) (Nat.le_refl _) (Nat.le_refl _) kX3_in ?_
  rintro _ _ _ _ ⟨rfl, rfl, rfl, rfl⟩
  exact x_zret C dX3_isRoom_13 (Nat.le_refl _) (Nat.le_refl _) (bz_nar _) ⟨rfl, rfl, rfl, rfl⟩
def shB (I : Mi) (a b : Nat) : Bool := decide (I 481 a = nI b) || (decide (¬ I 474 a = 0) && decide (¬ I 474 b = 0) && decide (I 475 a = I 475 b) && decide (I 481 a = -1) && decide (I 481 b = -1) && decide (I 482 (10 * a + b) = 0))
theorem kX3_mayShare (hS : twS S) {a b : Nat} (ha : a < 10) (hb : b < 10) : Ct w l yX3_mayShare cX3_mayShare 3 (some .boolean) 1 0 0 [.ref 473, .int (nI a), .int (nI b)] S I J (Qe (some (.int (bz (shB I a b)))) S I J) := by
  refine Ct.of [some _, some _, some _] rfl (Nat.le_of_ble_eq_true rfl) (by decide) ?_
  intro κ hκ C
  subst hκ
  refine x_aloadr_n C dX3_mayShare_0 1 rfl rfl ?_
  refine x_getr C fl_X3_36 (Or.inr ⟨_, rfl⟩) dX3_mayShare_1 4 rfl hS.1 (twR_friend hS) ?_
  refine x_iload_n C dX3_mayShare_4 5 rfl rfl ?_
  refine x_iald C dX3_mayShare_5 6 rfl (twA_friend hS) (twN_friend hS) rfl (by omega) (by decide) rfl ?_
  refine x_iload_n C dX3_mayShare_6 7 rfl rfl ?_
  refine x_icmpne C dX3_mayShare_7 10 12 rfl (by decide) (fun h7 => ?_) (fun h7 => ?_)
  · refine x_aloadr_n C dX3_mayShare_12 13 rfl rfl ?_
    refine x_getr C fl_X3_13 (Or.inr ⟨_, rfl⟩) dX3_mayShare_13 16 rfl hS.1 (twR_shares hS) ?_
    refine x_iload_n C dX3_mayShare_16 17 rfl rfl ?_
    refine x_zald C dX3_mayShare_17 18 rfl (twA_shares hS) (twN_shares hS) rfl (by omega) (by decide) rfl ?_
    refine x_ifeq C dX3_mayShare_18 21 83 rfl (by decide) (fun h18 => ?_) (fun h18 => ?_)
    ·
      refine x_ic (j := 0) C dX3_mayShare_83 84 rfl ?_
      exact x_zret C dX3_mayShare_84 (Nat.le_refl _) (Nat.le_refl _) rfl ⟨b0 (by simp [shB, h7, h18]), rfl, rfl, rfl⟩
    · refine x_aloadr_n C dX3_mayShare_21 22 rfl rfl ?_
      refine x_getr C fl_X3_13 (Or.inr ⟨_, rfl⟩) dX3_mayShare_22 25 rfl hS.1 (twR_shares hS) ?_
      refine x_iload_n C dX3_mayShare_25 26 rfl rfl ?_
      refine x_zald C dX3_mayShare_26 27 rfl (twA_shares hS) (twN_shares hS) rfl (by omega) (by decide) rfl ?_
      refine x_ifeq C dX3_mayShare_27 30 83 rfl (by decide) (fun h27 => ?_) (fun h27 => ?_)
      ·
        refine x_ic (j := 0) C dX3_mayShare_83 84 rfl ?_
        exact x_zret C dX3_mayShare_84 (Nat.le_refl _) (Nat.le_refl _) rfl ⟨b0 (by simp [shB, h7, h27]), rfl, rfl, rfl⟩
      · refine x_aloadr_n C dX3_mayShare_30 31 rfl rfl ?_
        refine x_getr C fl_X3_17 (Or.inr ⟨_, rfl⟩) dX3_mayShare_31 34 rfl hS.1 (twR_sort hS) ?_
        refine x_iload_n C dX3_mayShare_34 35 rfl rfl ?_
        refine x_iald C dX3_mayShare_35 36 rfl (twA_sort hS) (twN_sort hS) rfl (by omega) (by decide) rfl ?_
        refine x_aloadr_n C dX3_mayShare_36 37 rfl rfl ?_
        refine x_getr C fl_X3_17 (Or.inr ⟨_, rfl⟩) dX3_mayShare_37 40 rfl hS.1 (twR_sort hS) ?_
        refine x_iload_n C dX3_mayShare_40 41 rfl rfl ?_
        refine x_iald C dX3_mayShare_41 42 rfl (twA_sort hS) (twN_sort hS) rfl (by omega) (by decide) rfl ?_
        refine x_icmpne C dX3_mayShare_42 45 83 rfl (by decide) (fun h42 => ?_) (fun h42 => ?_)
        ·
          refine x_ic (j := 0) C dX3_mayShare_83 84 rfl ?_
          exact x_zret C dX3_mayShare_84 (Nat.le_refl _) (Nat.le_refl _) rfl ⟨b0 (by simp [shB, h7, h42]), rfl, rfl, rfl⟩
        · refine x_aloadr_n C dX3_mayShare_45 46 rfl rfl ?_
          refine x_getr C fl_X3_36 (Or.inr ⟨_, rfl⟩) dX3_mayShare_46 49 rfl hS.1 (twR_friend hS) ?_
          refine x_iload_n C dX3_mayShare_49 50 rfl rfl ?_
          refine x_iald C dX3_mayShare_50 51 rfl (twA_friend hS) (twN_friend hS) rfl (by omega) (by decide) rfl ?_
          refine x_icm C dX3_mayShare_51 52 rfl ?_
          refine x_icmpne C dX3_mayShare_52 55 83 rfl (by decide) (fun h52 => ?_) (fun h52 => ?_)
          ·
            refine x_ic (j := 0) C dX3_mayShare_83 84 rfl ?_
            exact x_zret C dX3_mayShare_84 (Nat.le_refl _) (Nat.le_refl _) rfl ⟨b0 (by simp [shB, h7, h52]), rfl, rfl, rfl⟩
          · refine x_aloadr_n C dX3_mayShare_55 56 rfl rfl ?_
            refine x_getr C fl_X3_36 (Or.inr ⟨_, rfl⟩) dX3_mayShare_56 59 rfl hS.1 (twR_friend hS) ?_
            refine x_iload_n C dX3_mayShare_59 60 rfl rfl ?_
            refine x_iald C dX3_mayShare_60 61 rfl (twA_friend hS) (twN_friend hS) rfl (by omega) (by decide) rfl ?_
            refine x_icm C dX3_mayShare_61 62 rfl ?_
            refine x_icmpne C dX3_mayShare_62 65 83 rfl (by decide) (fun h62 => ?_) (fun h62 => ?_)
            ·
              refine x_ic (j := 0) C dX3_mayShare_83 84 rfl ?_
              exact x_zret C dX3_mayShare_84 (Nat.le_refl _) (Nat.le_refl _) rfl ⟨b0 (by simp [shB, h7, h62]), rfl, rfl, rfl⟩
            · refine x_aloadr_n C dX3_mayShare_65 66 rfl rfl ?_
              refine x_getr C fl_X3_39 (Or.inr ⟨_, rfl⟩) dX3_mayShare_66 69 rfl hS.1 (twR_bars hS) ?_
              refine x_bip (j := 10) C dX3_mayShare_69 71 rfl (by decide) ?_
              refine x_iload_n C dX3_mayShare_71 72 rfl rfl ?_
              refine x_imul C dX3_mayShare_72 73 rfl (pk_mul _ _) ?_
              refine x_iload_n C dX3_mayShare_73 74 rfl rfl ?_
              refine x_iadd C dX3_mayShare_74 75 rfl (nI_add _ _) ?_
              refine x_zald C dX3_mayShare_75 76 rfl (twA_bars hS) (twN_bars hS) rfl (by omega) (by decide) rfl ?_
              refine x_ifne C dX3_mayShare_76 79 83 rfl (by decide) (fun h76 => ?_) (fun h76 => ?_)
              ·
                refine x_ic (j := 0) C dX3_mayShare_83 84 rfl ?_
                exact x_zret C dX3_mayShare_84 (Nat.le_refl _) (Nat.le_refl _) rfl ⟨b0 (by simp [shB, h7, h76]), rfl, rfl, rfl⟩
              ·
                refine x_ic (j := 1) C dX3_mayShare_79 80 rfl ?_
                refine x_goto C dX3_mayShare_80 84 (by decide) ?_
                exact x_zret C dX3_mayShare_84 (Nat.le_refl _) (Nat.le_refl _) rfl ⟨b1 (by simp [shB, h18, h27, h42, h52, h62, h76]), rfl, rfl, rfl⟩
  ·
    refine x_ic (j := 1) C dX3_mayShare_10 11 rfl ?_
    exact x_zret C dX3_mayShare_11 (Nat.le_refl _) (Nat.le_refl _) rfl ⟨b1 (by simp [shB, h7]), rfl, rfl, rfl⟩
/-! counts and masks -/
def cnt (P : Nat → Bool) : Nat → Nat
  | 0 => 0
  | k + 1 => cnt P k + (if P k then 1 else 0)
def msk (P : Nat → Bool) : Nat → Nat
  | 0 => 0
  | k + 1 => msk P k ||| (if P k then 2 ^ k else 0)
theorem cnt_t {P : Nat → Bool} {k : Nat} (h : P k = true) : cnt P (k + 1) = cnt P k + 1 := by simp [cnt, h]
theorem cnt_f {P : Nat → Bool} {k : Nat} (h : P k = false) : cnt P (k + 1) = cnt P k := by simp [cnt, h]
theorem msk_t {P : Nat → Bool} {k : Nat} (h : P k = true) : msk P (k + 1) = msk P k ||| 2 ^ k := by simp [msk, h]
theorem msk_f {P : Nat → Bool} {k : Nat} (h : P k = false) : msk P (k + 1) = msk P k := by simp [msk, h]
theorem cnt_le (P : Nat → Bool) (n : Nat) : cnt P n ≤ n := by
  induction n with
  | zero => exact Nat.le_refl _
  | succ n ih => unfold cnt; split <;> omega
theorem msk_lt (P : Nat → Bool) (n : Nat) : msk P n < 2 ^ n := by
  induction n with
  | zero => exact Nat.one_pos
  | succ n ih =>
    have h1 : msk P n < 2 ^ (n + 1) := Nat.lt_trans ih (p2_lt (by omega))
    unfold msk
    split
    · exact or_lt h1 (p2_lt (by omega))
    · exact or_lt h1 (Nat.two_pow_pos _)
theorem msk_bit (P : Nat → Bool) (n i : Nat) : (msk P n).testBit i = (decide (i < n) && P i) := by
  induction n with
  | zero => simp [msk]
  | succ n ih =>
    cases hP : P n with
    | true =>
      rw [msk_t hP, Nat.testBit_or, ih, Nat.testBit_two_pow]
      by_cases h : n = i
      · subst h; simp [hP]
      · have : (i < n + 1) ↔ (i < n) := by omega
        simp [h, this]
    | false =>
      rw [msk_f hP, ih]
      by_cases h : n = i
      · subst h; simp [hP]
      · have : (i < n + 1) ↔ (i < n) := by omega
        simp [this]
theorem kX3_there (hS : twS S) {n : Nat} (hn : I 473 1 = nI n) (hn2 : n ≤ 10) {t : Int32} : Ct w l yX3_there cX3_there 4 (some .int) 2 0 0 [.ref 473, .int t] S I J (Qe (some (.int (nI (msk (fun p => thB I p t) n)))) S I J) := by
  refine Ct.of [some _, some _, none, none] rfl (Nat.le_of_ble_eq_true rfl) (by decide) ?_
  intro κ hκ C
  subst hκ
  refine x_ic (j := 0) C dX3_there_0 1 rfl ?_
  refine x_istore_n C dX3_there_1 2 rfl [_, _, _, _] (by decide) rfl rfl ?_
  refine x_ic (j := 0) C dX3_there_2 3 rfl ?_
  refine x_istore_n C dX3_there_3 4 rfl [_, _, _, _] (by decide) rfl rfl ?_
  have hloop : ∀ (j p acc : Nat), p + j = n → acc = msk (fun p => thB I p t) p → XX w κ (Zr w κ (Qe (some (.int (nI (msk (fun p => thB I p t) n)))) S I J)) 0 0 4 [some (.ref 473), some (.int t), some (.int (nI acc)), some (.int (nI p))] [] S I J := by
    intro j
    induction j with
    | zero =>
      intro p acc hp ha
      have hp : p = n := hp
      subst hp
      subst ha
      refine x_iload_n C dX3_there_4 5 rfl rfl ?_
      refine x_aloadr_n C dX3_there_5 6 rfl rfl ?_
      refine x_geti C fl_X3_157 (Or.inl rfl) dX3_there_6 9 rfl hS.1 hn ?_
      refine x_icmpgeN C dX3_there_9 12 37 rfl (by decide) (by omega) (by omega) (fun _ => ?_) (fun h9 => absurd h9 (by omega))
      refine x_iload_n C dX3_there_37 38 rfl rfl ?_
      exact x_iret C dX3_there_38 (Nat.le_refl _) (Nat.le_refl _) ⟨rfl, rfl, rfl, rfl⟩
    | succ j ih =>
      intro p acc hp ha
      refine x_iload_n C dX3_there_4 5 rfl rfl ?_
      refine x_aloadr_n C dX3_there_5 6 rfl rfl ?_
      refine x_geti C fl_X3_157 (Or.inl rfl) dX3_there_6 9 rfl hS.1 hn ?_
      refine x_icmpgeN C dX3_there_9 12 37 rfl (by decide) (by omega) (by omega) (fun h9 => absurd h9 (by omega)) (fun _ => ?_)
      refine x_iload_n C dX3_there_12 13 rfl rfl ?_
      refine x_aloadr_n C dX3_there_13 14 rfl rfl ?_
      refine x_iload_n C dX3_there_14 15 rfl rfl ?_
      refine x_iload_n C dX3_there_15 16 rfl rfl ?_
      refine x_callV C lk_X3_205 dX3_there_16 19 rfl [_, _] [_] rfl rfl hS.1 (Nat.le_of_ble_eq_true rfl) (by decide) (Nat.le_refl _) (Nat.le_refl _) (kX3_isThere hS (by omega)) ?_
      rintro _ _ _ _ ⟨rfl, rfl, rfl, rfl⟩
      refine x_ifeqZ C dX3_there_19 22 28 rfl (by decide) (fun h19 => ?_) (fun h19 => ?_)
      ·
        refine x_ic (j := 0) C dX3_there_28 29 rfl ?_
        refine x_ior C dX3_there_29 30 rfl (nI_or _ _) ?_
        refine x_istore_n C dX3_there_30 31 rfl [_, _, _, _] (by decide) rfl rfl ?_
        refine x_iinc C dX3_there_31 34 rfl [_, _, _, _] (nI_inc _) (by decide) rfl rfl rfl ?_
        refine x_goto C dX3_there_34 4 (by decide) ?_
        exact ih (p + 1) _ (by omega) (by rw [msk_f h19, ha, Nat.or_zero])
      ·
        refine x_ic (j := 1) C dX3_there_22 23 rfl ?_
        refine x_iload_n C dX3_there_23 24 rfl rfl ?_
        refine x_ishl C dX3_there_24 25 rfl (nI_shl1' _ (by omega)) ?_
        refine x_goto C dX3_there_25 29 (by decide) ?_
        refine x_ior C dX3_there_29 30 rfl (nI_or _ _) ?_
        refine x_istore_n C dX3_there_30 31 rfl [_, _, _, _] (by decide) rfl rfl ?_
        refine x_iinc C dX3_there_31 34 rfl [_, _, _, _] (nI_inc _) (by decide) rfl rfl rfl ?_
        refine x_goto C dX3_there_34 4 (by decide) ?_
        exact ih (p + 1) _ (by omega) (by rw [msk_t h19, ha])
  exact hloop n 0 0 (Nat.zero_add n) rfl
end Tw1

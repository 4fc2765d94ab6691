/-! the twin: counts over people and rooms -/
theorem bit_if (s p : Nat) : bit s p = if s.testBit p then 1 else 0 := by
  cases h : s.testBit p with
  | true => exact (bit_1 s p).mpr h
  | false => exact (bit_0 s p).mpr h
/-- who is in a room -/
def si (I : Mi) (n t : Nat) (r : Int32) : Nat := msk (fun p => decide (I 490 (10 * t + p) = r)) n
theorem si_lt (I : Mi) {n : Nat} (t : Nat) (r : Int32) (hn : n ≤ 10) : si I n t r < 1024 := Nat.lt_of_lt_of_le (msk_lt _ n) (Nat.pow_le_pow_right (by decide) hn)
section Tw2
variable {w : Wd} {l : Launch} {S : Sh} {I : Mi} {J : Ml}
theorem kX3_setIn (hS : twS S) {n t : Nat} (hn : I 473 1 = nI n) (hn2 : n ≤ 10) (ht : t < 6) {r : Int32} : Ct w l yX3_setIn cX3_setIn 5 (some .int) 1 0 0 [.ref 473, .int (nI t), .int r] S I J (Qe (some (.int (nI (si I n t r)))) S I J) := by
  refine Ct.of [some _, some _, some _, none, none] rfl (Nat.le_of_ble_eq_true rfl) (by decide) ?_
  intro κ hκ C
  subst hκ
  refine x_ic (j := 0) C dX3_setIn_0 1 rfl ?_
  refine x_istore_n C dX3_setIn_1 2 rfl [_, _, _, _, _] (by decide) rfl rfl ?_
  refine x_ic (j := 0) C dX3_setIn_2 3 rfl ?_
  refine x_istore C dX3_setIn_3 5 rfl [_, _, _, _, _] (by decide) rfl rfl ?_
  have hloop : ∀ (j p acc : Nat), p + j = n → acc = si I p t r → XX w κ (Zr w κ (Qe (some (.int (nI (si I n t r)))) S I J)) 0 0 5 [some (.ref 473), some (.int (nI t)), some (.int r), some (.int (nI acc)), some (.int (nI p))] [] S I J := by
    intro j
    induction j with
    | zero =>
      intro p acc hp ha
      have hp : p = n := hp
      subst hp
      subst ha
      refine x_iload C dX3_setIn_5 7 rfl rfl ?_
      refine x_aloadr_n C dX3_setIn_7 8 rfl rfl ?_
      refine x_geti C fl_X3_157 (Or.inl rfl) dX3_setIn_8 11 rfl hS.1 hn ?_
      refine x_icmpgeN C dX3_setIn_11 14 47 rfl (by decide) (by omega) (by omega) (fun _ => ?_) (fun h11 => absurd h11 (by omega))
      refine x_iload_n C dX3_setIn_47 48 rfl rfl ?_
      exact x_iret C dX3_setIn_48 (Nat.le_refl _) (Nat.le_refl _) ⟨rfl, rfl, rfl, rfl⟩
    | succ j ih =>
      intro p acc hp ha
      refine x_iload C dX3_setIn_5 7 rfl rfl ?_
      refine x_aloadr_n C dX3_setIn_7 8 rfl rfl ?_
      refine x_geti C fl_X3_157 (Or.inl rfl) dX3_setIn_8 11 rfl hS.1 hn ?_
      refine x_icmpgeN C dX3_setIn_11 14 47 rfl (by decide) (by omega) (by omega) (fun h11 => absurd h11 (by omega)) (fun _ => ?_)
      refine x_iload_n C dX3_setIn_14 15 rfl rfl ?_
      refine x_aloadr_n C dX3_setIn_15 16 rfl rfl ?_
      refine x_getr C fl_X3_66 (Or.inr ⟨_, rfl⟩) dX3_setIn_16 19 rfl hS.1 (twR_list hS) ?_
      refine x_bip (j := 10) C dX3_setIn_19 21 rfl (by decide) ?_
      refine x_iload_n C dX3_setIn_21 22 rfl rfl ?_
      refine x_imul C dX3_setIn_22 23 rfl (pk_mul _ _) ?_
      refine x_iload C dX3_setIn_23 25 rfl rfl ?_
      refine x_iadd C dX3_setIn_25 26 rfl (nI_add _ _) ?_
      refine x_iald C dX3_setIn_26 27 rfl (twA_list hS) (twN_list hS) rfl (by omega) (by decide) rfl ?_
      refine x_iload_n C dX3_setIn_27 28 rfl rfl ?_
      refine x_icmpne C dX3_setIn_28 31 38 rfl (by decide) (fun h28 => ?_) (fun h28 => ?_)
      ·
        refine x_ic (j := 0) C dX3_setIn_38 39 rfl ?_
        refine x_ior C dX3_setIn_39 40 rfl (nI_or _ _) ?_
        refine x_istore_n C dX3_setIn_40 41 rfl [_, _, _, _, _] (by decide) rfl rfl ?_
        refine x_iinc C dX3_setIn_41 44 rfl [_, _, _, _, _] (nI_inc _) (by decide) rfl rfl rfl ?_
        refine x_goto C dX3_setIn_44 5 (by decide) ?_
        exact ih (p + 1) _ (by omega) (by unfold si; rw [msk_f (by simp [h28]), ha, Nat.or_zero]; rfl)
      ·
        refine x_ic (j := 1) C dX3_setIn_31 32 rfl ?_
        refine x_iload C dX3_setIn_32 34 rfl rfl ?_
        refine x_ishl C dX3_setIn_34 35 rfl (nI_shl1' _ (by omega)) ?_
        refine x_goto C dX3_setIn_35 39 (by decide) ?_
        refine x_ior C dX3_setIn_39 40 rfl (nI_or _ _) ?_
        refine x_istore_n C dX3_setIn_40 41 rfl [_, _, _, _, _] (by decide) rfl rfl ?_
        refine x_iinc C dX3_setIn_41 44 rfl [_, _, _, _, _] (nI_inc _) (by decide) rfl rfl rfl ?_
        refine x_goto C dX3_setIn_44 5 (by decide) ?_
        exact ih (p + 1) _ (by omega) (by unfold si; rw [msk_t (by simp [h28]), ha]; rfl)
  exact hloop n 0 0 (Nat.zero_add n) rfl
theorem kX3_sizeOf {s : Nat} (hs : s < 2 ^ 31) : Ct w l yX3_sizeOf cX3_sizeOf 3 (some .int) 1 0 0 [.int (nI s)] S I J (Qe (some (.int (nI (cnt s.testBit 10)))) S I J) := by
  refine Ct.of [some _, none, none] rfl (Nat.le_of_ble_eq_true rfl) (by decide) ?_
  intro κ hκ C
  subst hκ
  refine x_ic (j := 0) C dX3_sizeOf_0 1 rfl ?_
  refine x_istore_n C dX3_sizeOf_1 2 rfl [_, _, _] (by decide) rfl rfl ?_
  refine x_ic (j := 0) C dX3_sizeOf_2 3 rfl ?_
  refine x_istore_n C dX3_sizeOf_3 4 rfl [_, _, _] (by decide) rfl rfl ?_
  have hloop : ∀ (j p acc : Nat), p + j = 10 → acc = cnt s.testBit p → XX w κ (Zr w κ (Qe (some (.int (nI (cnt s.testBit 10)))) S I J)) 0 0 4 [some (.int (nI s)), some (.int (nI acc)), some (.int (nI p))] [] S I J := by
    intro j
    induction j with
    | zero =>
      intro p acc hp ha
      have hp : p = 10 := hp
      subst hp
      subst ha
      refine x_iload_n C dX3_sizeOf_4 5 rfl rfl ?_
      refine x_bip (j := 10) C dX3_sizeOf_5 7 rfl (by decide) ?_
      refine x_icmpgeN C dX3_sizeOf_7 10 24 rfl (by decide) (by omega) (by omega) (fun _ => ?_) (fun h7 => absurd h7 (by omega))
      refine x_iload_n C dX3_sizeOf_24 25 rfl rfl ?_
      exact x_iret C dX3_sizeOf_25 (Nat.le_refl _) (Nat.le_refl _) ⟨rfl, rfl, rfl, rfl⟩
    | succ j ih =>
      intro p acc hp ha
      refine x_iload_n C dX3_sizeOf_4 5 rfl rfl ?_
      refine x_bip (j := 10) C dX3_sizeOf_5 7 rfl (by decide) ?_
      refine x_icmpgeN C dX3_sizeOf_7 10 24 rfl (by decide) (by omega) (by omega) (fun h7 => absurd h7 (by omega)) (fun _ => ?_)
      refine x_iload_n C dX3_sizeOf_10 11 rfl rfl ?_
      refine x_iload_n C dX3_sizeOf_11 12 rfl rfl ?_
      refine x_iload_n C dX3_sizeOf_12 13 rfl rfl ?_
      refine x_ishr C dX3_sizeOf_13 14 rfl (nI_shrp _ _ hs (by omega)) ?_
      refine x_ic (j := 1) C dX3_sizeOf_14 15 rfl ?_
      refine x_iand C dX3_sizeOf_15 16 rfl (nI_bit _ _) ?_
      refine x_iadd C dX3_sizeOf_16 17 rfl (nI_add _ _) ?_
      refine x_istore_n C dX3_sizeOf_17 18 rfl [_, _, _] (by decide) rfl rfl ?_
      refine x_iinc C dX3_sizeOf_18 21 rfl [_, _, _] (nI_inc _) (by decide) rfl rfl rfl ?_
      refine x_goto C dX3_sizeOf_21 4 (by decide) ?_
      exact ih (p + 1) _ (by omega) (by rw [cnt, ← ha, bit_if])
  exact hloop 10 0 0 rfl rfl
def heldN (I : Mi) (t m : Nat) : Nat := cnt (fun r => decide (¬ I 489 (10 * t + r) = 0)) m
theorem kX3_heldIn (hS : twS S) {m t : Nat} (ht : t < 6) (hm : I 485 t = nI m) (hm2 : m ≤ 10) : Ct w l yX3_heldIn cX3_heldIn 4 (some .int) 1 0 0 [.ref 473, .int (nI t)] S I J (Qe (some (.int (nI (heldN I t m)))) S I J) := by
  refine Ct.of [some _, some _, none, none] rfl (Nat.le_of_ble_eq_true rfl) (by decide) ?_
  intro κ hκ C
  subst hκ
  refine x_ic (j := 0) C dX3_heldIn_0 1 rfl ?_
  refine x_istore_n C dX3_heldIn_1 2 rfl [_, _, _, _] (by decide) rfl rfl ?_
  refine x_ic (j := 0) C dX3_heldIn_2 3 rfl ?_
  refine x_istore_n C dX3_heldIn_3 4 rfl [_, _, _, _] (by decide) rfl rfl ?_
  have hloop : ∀ (j p acc : Nat), p + j = m → acc = heldN I t p → XX w κ (Zr w κ (Qe (some (.int (nI (heldN I t m)))) S I J)) 0 0 4 [some (.ref 473), some (.int (nI t)), some (.int (nI acc)), some (.int (nI p))] [] S I J := by
    intro j
    induction j with
    | zero =>
      intro p acc hp ha
      have hp : p = m := hp
      subst hp
      subst ha
      refine x_iload_n C dX3_heldIn_4 5 rfl rfl ?_
      refine x_aloadr_n C dX3_heldIn_5 6 rfl rfl ?_
      refine x_getr C fl_X3_51 (Or.inr ⟨_, rfl⟩) dX3_heldIn_6 9 rfl hS.1 (twR_rooms hS) ?_
      refine x_iload_n C dX3_heldIn_9 10 rfl rfl ?_
      refine x_iald C dX3_heldIn_10 11 rfl (twA_rooms hS) (twN_rooms hS) rfl (by omega) (by decide) hm ?_
      refine x_icmpgeN C dX3_heldIn_11 14 42 rfl (by decide) (by omega) (by omega) (fun _ => ?_) (fun h11 => absurd h11 (by omega))
      refine x_iload_n C dX3_heldIn_42 43 rfl rfl ?_
      exact x_iret C dX3_heldIn_43 (Nat.le_refl _) (Nat.le_refl _) ⟨rfl, rfl, rfl, rfl⟩
    | succ j ih =>
      intro p acc hp ha
      refine x_iload_n C dX3_heldIn_4 5 rfl rfl ?_
      refine x_aloadr_n C dX3_heldIn_5 6 rfl rfl ?_
      refine x_getr C fl_X3_51 (Or.inr ⟨_, rfl⟩) dX3_heldIn_6 9 rfl hS.1 (twR_rooms hS) ?_
      refine x_iload_n C dX3_heldIn_9 10 rfl rfl ?_
      refine x_iald C dX3_heldIn_10 11 rfl (twA_rooms hS) (twN_rooms hS) rfl (by omega) (by decide) hm ?_
      refine x_icmpgeN C dX3_heldIn_11 14 42 rfl (by decide) (by omega) (by omega) (fun h11 => absurd h11 (by omega)) (fun _ => ?_)
      refine x_iload_n C dX3_heldIn_14 15 rfl rfl ?_
      refine x_aloadr_n C dX3_heldIn_15 16 rfl rfl ?_
      refine x_getr C fl_X3_63 (Or.inr ⟨_, rfl⟩) dX3_heldIn_16 19 rfl hS.1 (twR_held hS) ?_
      refine x_bip (j := 10) C dX3_heldIn_19 21 rfl (by decide) ?_
      refine x_iload_n C dX3_heldIn_21 22 rfl rfl ?_
      refine x_imul C dX3_heldIn_22 23 rfl (pk_mul _ _) ?_
      refine x_iload_n C dX3_heldIn_23 24 rfl rfl ?_
      refine x_iadd C dX3_heldIn_24 25 rfl (nI_add _ _) ?_
      refine x_zald C dX3_heldIn_25 26 rfl (twA_held hS) (twN_held hS) rfl (by omega) (by decide) rfl ?_
      refine x_ifeq C dX3_heldIn_26 29 33 rfl (by decide) (fun h26 => ?_) (fun h26 => ?_)
      · refine x_ic (j := 0) C dX3_heldIn_33 34 rfl ?_
        refine x_iadd C dX3_heldIn_34 35 rfl (nI_add _ _) ?_
        refine x_istore_n C dX3_heldIn_35 36 rfl [_, _, _, _] (by decide) rfl rfl ?_
        refine x_iinc C dX3_heldIn_36 39 rfl [_, _, _, _] (nI_inc _) (by decide) rfl rfl rfl ?_
        refine x_goto C dX3_heldIn_39 4 (by decide) ?_
        exact ih (p + 1) _ (by omega) (by unfold heldN; rw [cnt_f (by simp [h26]), ha]; rfl)
      · refine x_ic (j := 1) C dX3_heldIn_29 30 rfl ?_
        refine x_goto C dX3_heldIn_30 34 (by decide) ?_
        refine x_iadd C dX3_heldIn_34 35 rfl (nI_add _ _) ?_
        refine x_istore_n C dX3_heldIn_35 36 rfl [_, _, _, _] (by decide) rfl rfl ?_
        refine x_iinc C dX3_heldIn_36 39 rfl [_, _, _, _] (nI_inc _) (by decide) rfl rfl rfl ?_
        refine x_goto C dX3_heldIn_39 4 (by decide) ?_
        exact ih (p + 1) _ (by omega) (by unfold heldN; rw [cnt_t (by simp [h26]), ha]; rfl)
  exact hloop m 0 0 (Nat.zero_add m) rfl
def usedN (I : Mi) (n t m : Nat) : Nat := cnt (fun r => decide (¬ si I n t (nI r) = 0)) m
theorem kX3_usedIn (hS : twS S) {n m t : Nat} (hn : I 473 1 = nI n) (hn2 : n ≤ 10) (ht : t < 6) (hm : I 485 t = nI m) (hm2 : m ≤ 10) : Ct w l yX3_usedIn cX3_usedIn 4 (some .int) 2 0 0 [.ref 473, .int (nI t)] S I J (Qe (some (.int (nI (usedN I n t m)))) S I J) := by
  refine Ct.of [some _, some _, none, none] rfl (Nat.le_of_ble_eq_true rfl) (by decide) ?_
  intro κ hκ C
  subst hκ
  refine x_ic (j := 0) C dX3_usedIn_0 1 rfl ?_
  refine x_istore_n C dX3_usedIn_1 2 rfl [_, _, _, _] (by decide) rfl rfl ?_
  refine x_ic (j := 0) C dX3_usedIn_2 3 rfl ?_
  refine x_istore_n C dX3_usedIn_3 4 rfl [_, _, _, _] (by decide) rfl rfl ?_
  have hloop : ∀ (j p acc : Nat), p + j = m → acc = usedN I n t p → XX w κ (Zr w κ (Qe (some (.int (nI (usedN I n t m)))) S I J)) 0 0 4 [some (.ref 473), some (.int (nI t)), some (.int (nI acc)), some (.int (nI p))] [] S I J := by
    intro j
    induction j with
    | zero =>
      intro p acc hp ha
      have hp : p = m := hp
      subst hp
      subst ha
      refine x_iload_n C dX3_usedIn_4 5 rfl rfl ?_
      refine x_aloadr_n C dX3_usedIn_5 6 rfl rfl ?_
      refine x_getr C fl_X3_51 (Or.inr ⟨_, rfl⟩) dX3_usedIn_6 9 rfl hS.1 (twR_rooms hS) ?_
      refine x_iload_n C dX3_usedIn_9 10 rfl rfl ?_
      refine x_iald C dX3_usedIn_10 11 rfl (twA_rooms hS) (twN_rooms hS) rfl (by omega) (by decide) hm ?_
      refine x_icmpgeN C dX3_usedIn_11 14 37 rfl (by decide) (by omega) (by omega) (fun _ => ?_) (fun h11 => absurd h11 (by omega))
      refine x_iload_n C dX3_usedIn_37 38 rfl rfl ?_
      exact x_iret C dX3_usedIn_38 (Nat.le_refl _) (Nat.le_refl _) ⟨rfl, rfl, rfl, rfl⟩
    | succ j ih =>
      intro p acc hp ha
      refine x_iload_n C dX3_usedIn_4 5 rfl rfl ?_
      refine x_aloadr_n C dX3_usedIn_5 6 rfl rfl ?_
      refine x_getr C fl_X3_51 (Or.inr ⟨_, rfl⟩) dX3_usedIn_6 9 rfl hS.1 (twR_rooms hS) ?_
      refine x_iload_n C dX3_usedIn_9 10 rfl rfl ?_
      refine x_iald C dX3_usedIn_10 11 rfl (twA_rooms hS) (twN_rooms hS) rfl (by omega) (by decide) hm ?_
      refine x_icmpgeN C dX3_usedIn_11 14 37 rfl (by decide) (by omega) (by omega) (fun h11 => absurd h11 (by omega)) (fun _ => ?_)
      refine x_iload_n C dX3_usedIn_14 15 rfl rfl ?_
      refine x_aloadr_n C dX3_usedIn_15 16 rfl rfl ?_
      refine x_iload_n C dX3_usedIn_16 17 rfl rfl ?_
      refine x_iload_n C dX3_usedIn_17 18 rfl rfl ?_
      refine x_callV C lk_X3_211 dX3_usedIn_18 21 rfl [_, _] [_] rfl rfl hS.1 (Nat.le_of_ble_eq_true rfl) (by decide) (Nat.le_refl _) (Nat.le_refl _) (kX3_setIn hS hn hn2 ht) ?_
      rintro _ _ _ _ ⟨rfl, rfl, rfl, rfl⟩
      refine x_ifeqN C dX3_usedIn_21 24 28 rfl (by decide) (Nat.lt_of_lt_of_le (si_lt I t _ hn2) (by decide)) (fun h21 => ?_) (fun h21 => ?_)
      · refine x_ic (j := 0) C dX3_usedIn_28 29 rfl ?_
        refine x_iadd C dX3_usedIn_29 30 rfl (nI_add _ _) ?_
        refine x_istore_n C dX3_usedIn_30 31 rfl [_, _, _, _] (by decide) rfl rfl ?_
        refine x_iinc C dX3_usedIn_31 34 rfl [_, _, _, _] (nI_inc _) (by decide) rfl rfl rfl ?_
        refine x_goto C dX3_usedIn_34 4 (by decide) ?_
        exact ih (p + 1) _ (by omega) (by unfold usedN; rw [cnt_f (by simp [h21]), ha]; rfl)
      · refine x_ic (j := 1) C dX3_usedIn_24 25 rfl ?_
        refine x_goto C dX3_usedIn_25 29 (by decide) ?_
        refine x_iadd C dX3_usedIn_29 30 rfl (nI_add _ _) ?_
        refine x_istore_n C dX3_usedIn_30 31 rfl [_, _, _, _] (by decide) rfl rfl ?_
        refine x_iinc C dX3_usedIn_31 34 rfl [_, _, _, _] (nI_inc _) (by decide) rfl rfl rfl ?_
        refine x_goto C dX3_usedIn_34 4 (by decide) ?_
        exact ih (p + 1) _ (by omega) (by unfold usedN; rw [cnt_t (by simp [h21]), ha]; rfl)
  exact hloop m 0 0 (Nat.zero_add m) rfl
def peopN (I : Mi) (t n : Nat) : Nat := cnt (fun p => decide (¬ I 490 (10 * t + p) = -1)) n
theorem kX3_peopleIn (hS : twS S) {n t : Nat} (hn : I 473 1 = nI n) (hn2 : n ≤ 10) (ht : t < 6) : Ct w l yX3_peopleIn cX3_peopleIn 4 (some .int) 1 0 0 [.ref 473, .int (nI t)] S I J (Qe (some (.int (nI (peopN I t n)))) S I J) := by
  refine Ct.of [some _, some _, none, none] rfl (Nat.le_of_ble_eq_true rfl) (by decide) ?_
  intro κ hκ C
  subst hκ
  refine x_ic (j := 0) C dX3_peopleIn_0 1 rfl ?_
  refine x_istore_n C dX3_peopleIn_1 2 rfl [_, _, _, _] (by decide) rfl rfl ?_
  refine x_ic (j := 0) C dX3_peopleIn_2 3 rfl ?_
  refine x_istore_n C dX3_peopleIn_3 4 rfl [_, _, _, _] (by decide) rfl rfl ?_
  have hloop : ∀ (j p acc : Nat), p + j = n → acc = peopN I t p → XX w κ (Zr w κ (Qe (some (.int (nI (peopN I t n)))) S I J)) 0 0 4 [some (.ref 473), some (.int (nI t)), some (.int (nI acc)), some (.int (nI p))] [] S I J := by
    intro j
    induction j with
    | zero =>
      intro p acc hp ha
      have hp : p = n := hp
      subst hp
      subst ha
      refine x_iload_n C dX3_peopleIn_4 5 rfl rfl ?_
      refine x_aloadr_n C dX3_peopleIn_5 6 rfl rfl ?_
      refine x_geti C fl_X3_157 (Or.inl rfl) dX3_peopleIn_6 9 rfl hS.1 hn ?_
      refine x_icmpgeN C dX3_peopleIn_9 12 41 rfl (by decide) (by omega) (by omega) (fun _ => ?_) (fun h9 => absurd h9 (by omega))
      refine x_iload_n C dX3_peopleIn_41 42 rfl rfl ?_
      exact x_iret C dX3_peopleIn_42 (Nat.le_refl _) (Nat.le_refl _) ⟨rfl, rfl, rfl, rfl⟩
    | succ j ih =>
      intro p acc hp ha
      refine x_iload_n C dX3_peopleIn_4 5 rfl rfl ?_
      refine x_aloadr_n C dX3_peopleIn_5 6 rfl rfl ?_
      refine x_geti C fl_X3_157 (Or.inl rfl) dX3_peopleIn_6 9 rfl hS.1 hn ?_
      refine x_icmpgeN C dX3_peopleIn_9 12 41 rfl (by decide) (by omega) (by omega) (fun h9 => absurd h9 (by omega)) (fun _ => ?_)
      refine x_iload_n C dX3_peopleIn_12 13 rfl rfl ?_
      refine x_aloadr_n C dX3_peopleIn_13 14 rfl rfl ?_
      refine x_getr C fl_X3_66 (Or.inr ⟨_, rfl⟩) dX3_peopleIn_14 17 rfl hS.1 (twR_list hS) ?_
      refine x_bip (j := 10) C dX3_peopleIn_17 19 rfl (by decide) ?_
      refine x_iload_n C dX3_peopleIn_19 20 rfl rfl ?_
      refine x_imul C dX3_peopleIn_20 21 rfl (pk_mul _ _) ?_
      refine x_iload_n C dX3_peopleIn_21 22 rfl rfl ?_
      refine x_iadd C dX3_peopleIn_22 23 rfl (nI_add _ _) ?_
      refine x_iald C dX3_peopleIn_23 24 rfl (twA_list hS) (twN_list hS) rfl (by omega) (by decide) rfl ?_
      refine x_icm C dX3_peopleIn_24 25 rfl ?_
      refine x_icmpeq C dX3_peopleIn_25 28 32 rfl (by decide) (fun h25 => ?_) (fun h25 => ?_)
      · refine x_ic (j := 0) C dX3_peopleIn_32 33 rfl ?_
        refine x_iadd C dX3_peopleIn_33 34 rfl (nI_add _ _) ?_
        refine x_istore_n C dX3_peopleIn_34 35 rfl [_, _, _, _] (by decide) rfl rfl ?_
        refine x_iinc C dX3_peopleIn_35 38 rfl [_, _, _, _] (nI_inc _) (by decide) rfl rfl rfl ?_
        refine x_goto C dX3_peopleIn_38 4 (by decide) ?_
        exact ih (p + 1) _ (by omega) (by unfold peopN; rw [cnt_f (by simp [h25]), ha]; rfl)
      · refine x_ic (j := 1) C dX3_peopleIn_28 29 rfl ?_
        refine x_goto C dX3_peopleIn_29 33 (by decide) ?_
        refine x_iadd C dX3_peopleIn_33 34 rfl (nI_add _ _) ?_
        refine x_istore_n C dX3_peopleIn_34 35 rfl [_, _, _, _] (by decide) rfl rfl ?_
        refine x_iinc C dX3_peopleIn_35 38 rfl [_, _, _, _] (nI_inc _) (by decide) rfl rfl rfl ?_
        refine x_goto C dX3_peopleIn_38 4 (by decide) ?_
        exact ih (p + 1) _ (by omega) (by unfold peopN; rw [cnt_t (by simp [h25]), ha]; rfl)
  exact hloop n 0 0 (Nat.zero_add n) rfl
/-- a sum of ints -/
def smI (f : Nat → Int32) : Nat → Int32
  | 0 => 0
  | k + 1 => smI f k + f k
def costI (I : Mi) (n t m : Nat) : Int32 := smI (fun r => if si I n t (nI r) = 0 then 0 else I 488 (10 * t + r)) m
theorem kX3_costOf (hS : twS S) {n m t : Nat} (hn : I 473 1 = nI n) (hn2 : n ≤ 10) (ht : t < 6) (hm : I 485 t = nI m) (hm2 : m ≤ 10) : Ct w l yX3_costOf cX3_costOf 4 (some .int) 2 0 0 [.ref 473, .int (nI t)] S I J (Qe (some (.int (costI I n t m))) S I J) := by
  refine Ct.of [some _, some _, none, none] rfl (Nat.le_of_ble_eq_true rfl) (by decide) ?_
  intro κ hκ C
  subst hκ
  refine x_ic (j := 0) C dX3_costOf_0 1 rfl ?_
  refine x_istore_n C dX3_costOf_1 2 rfl [_, _, _, _] (by decide) rfl rfl ?_
  refine x_ic (j := 0) C dX3_costOf_2 3 rfl ?_
  refine x_istore_n C dX3_costOf_3 4 rfl [_, _, _, _] (by decide) rfl rfl ?_
  have hloop : ∀ (j p : Nat) (acc : Int32), p + j = m → acc = costI I n t p → XX w κ (Zr w κ (Qe (some (.int (costI I n t m))) S I J)) 0 0 4 [some (.ref 473), some (.int (nI t)), some (.int acc), some (.int (nI p))] [] S I J := by
    intro j
    induction j with
    | zero =>
      intro p acc hp ha
      have hp : p = m := hp
      subst hp
      subst ha
      refine x_iload_n C dX3_costOf_4 5 rfl rfl ?_
      refine x_aloadr_n C dX3_costOf_5 6 rfl rfl ?_
      refine x_getr C fl_X3_51 (Or.inr ⟨_, rfl⟩) dX3_costOf_6 9 rfl hS.1 (twR_rooms hS) ?_
      refine x_iload_n C dX3_costOf_9 10 rfl rfl ?_
      refine x_iald C dX3_costOf_10 11 rfl (twA_rooms hS) (twN_rooms hS) rfl (by omega) (by decide) hm ?_
      refine x_icmpgeN C dX3_costOf_11 14 47 rfl (by decide) (by omega) (by omega) (fun _ => ?_) (fun h11 => absurd h11 (by omega))
      refine x_iload_n C dX3_costOf_47 48 rfl rfl ?_
      exact x_iret C dX3_costOf_48 (Nat.le_refl _) (Nat.le_refl _) ⟨rfl, rfl, rfl, rfl⟩
    | succ j ih =>
      intro p acc hp ha
      refine x_iload_n C dX3_costOf_4 5 rfl rfl ?_
      refine x_aloadr_n C dX3_costOf_5 6 rfl rfl ?_
      refine x_getr C fl_X3_51 (Or.inr ⟨_, rfl⟩) dX3_costOf_6 9 rfl hS.1 (twR_rooms hS) ?_
      refine x_iload_n C dX3_costOf_9 10 rfl rfl ?_
      refine x_iald C dX3_costOf_10 11 rfl (twA_rooms hS) (twN_rooms hS) rfl (by omega) (by decide) hm ?_
      refine x_icmpgeN C dX3_costOf_11 14 47 rfl (by decide) (by omega) (by omega) (fun h11 => absurd h11 (by omega)) (fun _ => ?_)
      refine x_iload_n C dX3_costOf_14 15 rfl rfl ?_
      refine x_aloadr_n C dX3_costOf_15 16 rfl rfl ?_
      refine x_iload_n C dX3_costOf_16 17 rfl rfl ?_
      refine x_iload_n C dX3_costOf_17 18 rfl rfl ?_
      refine x_callV C lk_X3_211 dX3_costOf_18 21 rfl [_, _] [_] rfl rfl hS.1 (Nat.le_of_ble_eq_true rfl) (by decide) (Nat.le_refl _) (Nat.le_refl _) (kX3_setIn hS hn hn2 ht) ?_
      rintro _ _ _ _ ⟨rfl, rfl, rfl, rfl⟩
      refine x_ifneN C dX3_costOf_21 24 28 rfl (by decide) (Nat.lt_of_lt_of_le (si_lt I t _ hn2) (by decide)) (fun h21 => ?_) (fun h21 => ?_)
      · refine x_aloadr_n C dX3_costOf_28 29 rfl rfl ?_
        refine x_getr C fl_X3_60 (Or.inr ⟨_, rfl⟩) dX3_costOf_29 32 rfl hS.1 (twR_price hS) ?_
        refine x_bip (j := 10) C dX3_costOf_32 34 rfl (by decide) ?_
        refine x_iload_n C dX3_costOf_34 35 rfl rfl ?_
        refine x_imul C dX3_costOf_35 36 rfl (pk_mul _ _) ?_
        refine x_iload_n C dX3_costOf_36 37 rfl rfl ?_
        refine x_iadd C dX3_costOf_37 38 rfl (nI_add _ _) ?_
        refine x_iald C dX3_costOf_38 39 rfl (twA_price hS) (twN_price hS) rfl (by omega) (by decide) rfl ?_
        refine x_iadd C dX3_costOf_39 40 rfl rfl ?_
        refine x_istore_n C dX3_costOf_40 41 rfl [_, _, _, _] (by decide) rfl rfl ?_
        refine x_iinc C dX3_costOf_41 44 rfl [_, _, _, _] (nI_inc _) (by decide) rfl rfl rfl ?_
        refine x_goto C dX3_costOf_44 4 (by decide) ?_
        exact ih (p + 1) _ (by omega) (by unfold costI; rw [smI, if_neg h21, ha]; rfl)
      · refine x_ic (j := 0) C dX3_costOf_24 25 rfl ?_
        refine x_goto C dX3_costOf_25 39 (by decide) ?_
        refine x_iadd C dX3_costOf_39 40 rfl rfl ?_
        refine x_istore_n C dX3_costOf_40 41 rfl [_, _, _, _] (by decide) rfl rfl ?_
        refine x_iinc C dX3_costOf_41 44 rfl [_, _, _, _] (nI_inc _) (by decide) rfl rfl rfl ?_
        refine x_goto C dX3_costOf_44 4 (by decide) ?_
        exact ih (p + 1) _ (by omega) (by unfold costI; rw [smI, if_pos h21, ha]; rfl)
  exact hloop m 0 (nI 0) (Nat.zero_add m) rfl
def mvP (I : Mi) (t : Nat) (r : Int32) (s p : Nat) : Bool := s.testBit p && decide (¬ I 490 (10 * t + p) = -1) && decide (¬ I 490 (10 * t + p) = r)
theorem kX3_movedBy (hS : twS S) {n t s : Nat} (hn : I 473 1 = nI n) (hn2 : n ≤ 10) (ht : t < 6) (hs : s < 2 ^ 31) {r : Int32} : Ct w l yX3_movedBy cX3_movedBy 6 (some .int) 1 0 0 [.ref 473, .int (nI t), .int r, .int (nI s)] S I J (Qe (some (.int (nI (cnt (mvP I t r s) n)))) S I J) := by
  refine Ct.of [some _, some _, some _, some _, none, none] rfl (Nat.le_of_ble_eq_true rfl) (by decide) ?_
  intro κ hκ C
  subst hκ
  refine x_ic (j := 0) C dX3_movedBy_0 1 rfl ?_
  refine x_istore C dX3_movedBy_1 3 rfl [_, _, _, _, _, _] (by decide) rfl rfl ?_
  refine x_ic (j := 0) C dX3_movedBy_3 4 rfl ?_
  refine x_istore C dX3_movedBy_4 6 rfl [_, _, _, _, _, _] (by decide) rfl rfl ?_
  have hloop : ∀ (j p acc : Nat), p + j = n → acc = cnt (mvP I t r s) p → XX w κ (Zr w κ (Qe (some (.int (nI (cnt (mvP I t r s) n)))) S I J)) 0 0 6 [some (.ref 473), some (.int (nI t)), some (.int r), some (.int (nI s)), some (.int (nI acc)), some (.int (nI p))] [] S I J := by
    intro j
    induction j with
    | zero =>
      intro p acc hp ha
      have hp : p = n := hp
      subst hp
      subst ha
      refine x_iload C dX3_movedBy_6 8 rfl rfl ?_
      refine x_aloadr_n C dX3_movedBy_8 9 rfl rfl ?_
      refine x_geti C fl_X3_157 (Or.inl rfl) dX3_movedBy_9 12 rfl hS.1 hn ?_
      refine x_icmpgeN C dX3_movedBy_12 15 73 rfl (by decide) (by omega) (by omega) (fun _ => ?_) (fun h12 => absurd h12 (by omega))
      refine x_iload C dX3_movedBy_73 75 rfl rfl ?_
      exact x_iret C dX3_movedBy_75 (Nat.le_refl _) (Nat.le_refl _) ⟨rfl, rfl, rfl, rfl⟩
    | succ j ih =>
      intro p acc hp ha
      refine x_iload C dX3_movedBy_6 8 rfl rfl ?_
      refine x_aloadr_n C dX3_movedBy_8 9 rfl rfl ?_
      refine x_geti C fl_X3_157 (Or.inl rfl) dX3_movedBy_9 12 rfl hS.1 hn ?_
      refine x_icmpgeN C dX3_movedBy_12 15 73 rfl (by decide) (by omega) (by omega) (fun h12 => absurd h12 (by omega)) (fun _ => ?_)
      refine x_iload C dX3_movedBy_15 17 rfl rfl ?_
      refine x_iload_n C dX3_movedBy_17 18 rfl rfl ?_
      refine x_iload C dX3_movedBy_18 20 rfl rfl ?_
      refine x_ishr C dX3_movedBy_20 21 rfl (nI_shrp _ _ hs (by omega)) ?_
      refine x_ic (j := 1) C dX3_movedBy_21 22 rfl ?_
      refine x_iand C dX3_movedBy_22 23 rfl (nI_bit _ _) ?_
      refine x_ic (j := 1) C dX3_movedBy_23 24 rfl ?_
      refine x_icmpneN C dX3_movedBy_24 27 63 rfl (by decide) (by have := bit_lt s p; omega) (by decide) (fun h24 => ?_) (fun h24 => ?_)
      · refine x_ic (j := 0) C dX3_movedBy_63 64 rfl ?_
        refine x_iadd C dX3_movedBy_64 65 rfl (nI_add _ _) ?_
        refine x_istore C dX3_movedBy_65 67 rfl [_, _, _, _, _, _] (by decide) rfl rfl ?_
        refine x_iinc C dX3_movedBy_67 70 rfl [_, _, _, _, _, _] (nI_inc _) (by decide) rfl rfl rfl ?_
        refine x_goto C dX3_movedBy_70 6 (by decide) ?_
        exact ih (p + 1) _ (by omega) (by rw [cnt_f (by rw [bit_1] at h24; simp [mvP, h24]), ha]; rfl)
      · refine x_aloadr_n C dX3_movedBy_27 28 rfl rfl ?_
        refine x_getr C fl_X3_66 (Or.inr ⟨_, rfl⟩) dX3_movedBy_28 31 rfl hS.1 (twR_list hS) ?_
        refine x_bip (j := 10) C dX3_movedBy_31 33 rfl (by decide) ?_
        refine x_iload_n C dX3_movedBy_33 34 rfl rfl ?_
        refine x_imul C dX3_movedBy_34 35 rfl (pk_mul _ _) ?_
        refine x_iload C dX3_movedBy_35 37 rfl rfl ?_
        refine x_iadd C dX3_movedBy_37 38 rfl (nI_add _ _) ?_
        refine x_iald C dX3_movedBy_38 39 rfl (twA_list hS) (twN_list hS) rfl (by omega) (by decide) rfl ?_
        refine x_icm C dX3_movedBy_39 40 rfl ?_
        refine x_icmpeq C dX3_movedBy_40 43 63 rfl (by decide) (fun h40 => ?_) (fun h40 => ?_)
        · refine x_ic (j := 0) C dX3_movedBy_63 64 rfl ?_
          refine x_iadd C dX3_movedBy_64 65 rfl (nI_add _ _) ?_
          refine x_istore C dX3_movedBy_65 67 rfl [_, _, _, _, _, _] (by decide) rfl rfl ?_
          refine x_iinc C dX3_movedBy_67 70 rfl [_, _, _, _, _, _] (nI_inc _) (by decide) rfl rfl rfl ?_
          refine x_goto C dX3_movedBy_70 6 (by decide) ?_
          exact ih (p + 1) _ (by omega) (by rw [cnt_f (by simp [mvP, h40]), ha]; rfl)
        · refine x_aloadr_n C dX3_movedBy_43 44 rfl rfl ?_
          refine x_getr C fl_X3_66 (Or.inr ⟨_, rfl⟩) dX3_movedBy_44 47 rfl hS.1 (twR_list hS) ?_
          refine x_bip (j := 10) C dX3_movedBy_47 49 rfl (by decide) ?_
          refine x_iload_n C dX3_movedBy_49 50 rfl rfl ?_
          refine x_imul C dX3_movedBy_50 51 rfl (pk_mul _ _) ?_
          refine x_iload C dX3_movedBy_51 53 rfl rfl ?_
          refine x_iadd C dX3_movedBy_53 54 rfl (nI_add _ _) ?_
          refine x_iald C dX3_movedBy_54 55 rfl (twA_list hS) (twN_list hS) rfl (by omega) (by decide) rfl ?_
          refine x_iload_n C dX3_movedBy_55 56 rfl rfl ?_
          refine x_icmpeq C dX3_movedBy_56 59 63 rfl (by decide) (fun h56 => ?_) (fun h56 => ?_)
          · refine x_ic (j := 0) C dX3_movedBy_63 64 rfl ?_
            refine x_iadd C dX3_movedBy_64 65 rfl (nI_add _ _) ?_
            refine x_istore C dX3_movedBy_65 67 rfl [_, _, _, _, _, _] (by decide) rfl rfl ?_
            refine x_iinc C dX3_movedBy_67 70 rfl [_, _, _, _, _, _] (nI_inc _) (by decide) rfl rfl rfl ?_
            refine x_goto C dX3_movedBy_70 6 (by decide) ?_
            exact ih (p + 1) _ (by omega) (by rw [cnt_f (by simp [mvP, h56]), ha]; rfl)
          · refine x_ic (j := 1) C dX3_movedBy_59 60 rfl ?_
            refine x_goto C dX3_movedBy_60 64 (by decide) ?_
            refine x_iadd C dX3_movedBy_64 65 rfl (nI_add _ _) ?_
            refine x_istore C dX3_movedBy_65 67 rfl [_, _, _, _, _, _] (by decide) rfl rfl ?_
            refine x_iinc C dX3_movedBy_67 70 rfl [_, _, _, _, _, _] (nI_inc _) (by decide) rfl rfl rfl ?_
            refine x_goto C dX3_movedBy_70 6 (by decide) ?_
            exact ih (p + 1) _ (by omega) (by rw [cnt_t (by rw [bit_1] at h24; simp [mvP, h24, h40, h56]), ha])
  exact hloop n 0 0 (Nat.zero_add n) rfl
def wgt (I : Mi) (n t r s : Nat) (how : Int32) : Int32 := if s = 0 then 0 else if how = 0 then nI 32 * I 488 (10 * t + r) + nI (cnt (mvP I t (nI r) s) n) else 32768 * nI (cnt (mvP I t (nI r) s) n) + I 488 (10 * t + r)
theorem kX3_weight (hS : twS S) {n t r s : Nat} (hn : I 473 1 = nI n) (hn2 : n ≤ 10) (ht : t < 6) (hr : r < 10) (hs : s < 2 ^ 31) {how : Int32} : Ct w l yX3_weight cX3_weight 7 (some .int) 2 0 0 [.ref 473, .int (nI t), .int (nI r), .int (nI s), .int how] S I J (Qe (some (.int (wgt I n t r s how))) S I J) := by
  refine Ct.of [some _, some _, some _, some _, some _, none, none] rfl (Nat.le_of_ble_eq_true rfl) (by decide) ?_
  intro κ hκ C
  subst hκ
  refine x_iload_n C dX3_weight_0 1 rfl rfl ?_
  refine x_ifneN C dX3_weight_1 4 6 rfl (by decide) (by omega) (fun h1 => ?_) (fun h1 => ?_)
  · refine x_aloadr_n C dX3_weight_6 7 rfl rfl ?_
    refine x_getr C fl_X3_60 (Or.inr ⟨_, rfl⟩) dX3_weight_7 10 rfl hS.1 (twR_price hS) ?_
    refine x_bip (j := 10) C dX3_weight_10 12 rfl (by decide) ?_
    refine x_iload_n C dX3_weight_12 13 rfl rfl ?_
    refine x_imul C dX3_weight_13 14 rfl (pk_mul _ _) ?_
    refine x_iload_n C dX3_weight_14 15 rfl rfl ?_
    refine x_iadd C dX3_weight_15 16 rfl (nI_add _ _) ?_
    refine x_iald C dX3_weight_16 17 rfl (twA_price hS) (twN_price hS) rfl (by omega) (by decide) rfl ?_
    refine x_istore C dX3_weight_17 19 rfl [_, _, _, _, _, _, _] (by decide) rfl rfl ?_
    refine x_aloadr_n C dX3_weight_19 20 rfl rfl ?_
    refine x_iload_n C dX3_weight_20 21 rfl rfl ?_
    refine x_iload_n C dX3_weight_21 22 rfl rfl ?_
    refine x_iload_n C dX3_weight_22 23 rfl rfl ?_
    refine x_callV C lk_X3_222 dX3_weight_23 26 rfl [_, _, _] [] rfl rfl hS.1 (Nat.le_of_ble_eq_true rfl) (by decide) (Nat.le_refl _) (Nat.le_refl _) (kX3_movedBy hS hn hn2 ht hs) ?_
    rintro _ _ _ _ ⟨rfl, rfl, rfl, rfl⟩
    refine x_istore C dX3_weight_26 28 rfl [_, _, _, _, _, _, _] (by decide) rfl rfl ?_
    refine x_iload C dX3_weight_28 30 rfl rfl ?_
    refine x_ifne C dX3_weight_30 33 44 rfl (by decide) (fun h30 => ?_) (fun h30 => ?_)
    ·
      refine x_ldc C dX3_weight_44 46 rfl q1569 ?_
      refine x_iload C dX3_weight_46 48 rfl rfl ?_
      refine x_imul C dX3_weight_48 49 rfl rfl ?_
      refine x_iload C dX3_weight_49 51 rfl rfl ?_
      refine x_iadd C dX3_weight_51 52 rfl rfl ?_
      exact x_iret C dX3_weight_52 (Nat.le_refl _) (Nat.le_refl _) ⟨by unfold wgt; rw [if_neg h1, if_neg h30], rfl, rfl, rfl⟩
    ·
      refine x_bip (j := 32) C dX3_weight_33 35 rfl (by decide) ?_
      refine x_iload C dX3_weight_35 37 rfl rfl ?_
      refine x_imul C dX3_weight_37 38 rfl rfl ?_
      refine x_iload C dX3_weight_38 40 rfl rfl ?_
      refine x_iadd C dX3_weight_40 41 rfl rfl ?_
      refine x_goto C dX3_weight_41 52 (by decide) ?_
      exact x_iret C dX3_weight_52 (Nat.le_refl _) (Nat.le_refl _) ⟨by unfold wgt; rw [if_neg h1, if_pos h30], rfl, rfl, rfl⟩
  ·
    refine x_ic (j := 0) C dX3_weight_4 5 rfl ?_
    exact x_iret C dX3_weight_5 (Nat.le_refl _) (Nat.le_refl _) ⟨by unfold wgt; rw [if_pos h1]; rfl, rfl, rfl, rfl⟩
end Tw2

/-! the component: a new town -/
def NtOk (T : Mi) : Prop := ∀ t, tn T ≤ t → t < 6 → T 485 t = 0 ∧ T 505 t = 0 ∧ T 506 t = 0 ∧ ∀ p, p < 10 → T 490 (10 * t + p) = -1
theorem newS_e1 {S : Sh} {t k n b : Nat} : (newS S t k n).1 b = if b = t then k else S.1 b := rfl
theorem newS_e2 {S : Sh} {t k n b : Nat} : (newS S t k n).2.1 b = if b = t then n else S.2.1 b := rfl
theorem newS_e3 {S : Sh} {t k n b i : Nat} : (newS S t k n).2.2.1 b i = if b = t then none else S.2.2.1 b i := by
  show wr S.2.2.1 t (fun _ => none) b i = _
  unfold wr
  split <;> rfl
theorem newS_e4 {S : Sh} {t k n : Nat} : (newS S t k n).2.2.2 = t + 1 := rfl
theorem setR_e1 {S : Sh} {a k : Nat} {r : Option Nat} : (setR S a k r).1 = S.1 := rfl
theorem setR_e2 {S : Sh} {a k : Nat} {r : Option Nat} : (setR S a k r).2.1 = S.2.1 := rfl
theorem setR_e3 {S : Sh} {a k b i : Nat} {r : Option Nat} : (setR S a k r).2.2.1 b i = if b = a ∧ i = k then r else S.2.2.1 b i := sto_at _ _ _ _ _ _
theorem setR_e4 {S : Sh} {a k : Nat} {r : Option Nat} : (setR S a k r).2.2.2 = S.2.2.2 := rfl
theorem wr_e {α : Type} {I : Nat → Nat → α} {t b i : Nat} {f : Nat → α} : wr I t f b i = if b = t then f i else I b i := by
  unfold wr
  split <;> rfl
def lsF (M : Mi) (b p : Nat) : Mi := fun c i => if c = b ∧ i < p then -1 else M c i
theorem lsF_0 (M : Mi) (b : Nat) : lsF M b 0 = M := by
  funext c i
  simp [lsF]
theorem lsF_s (M : Mi) (b p : Nat) : sto (lsF M b p) b p (-1) = lsF M b (p + 1) := by
  funext c i
  rw [sto_at]
  unfold lsF
  by_cases h : c = b ∧ i = p
  · rw [if_pos h, if_pos ⟨h.1, by omega⟩]
  · rw [if_neg h]
    by_cases h2 : c = b ∧ i < p
    · rw [if_pos h2, if_pos ⟨h2.1, by omega⟩]
    · rw [if_neg h2, if_neg (by omega)]
section Co16
variable {w : Wd} {l : Launch} {K : Ly} {S : Sh} {I T : Mi} {J : Ml}
theorem kJ0_init {a : Nat} : Ct w l yJ0_init cJ0_init 1 none 1 0 0 [.ref a] S I J (Qv I S J) := by
  refine Ct.of [some _] rfl (Nat.le_of_ble_eq_true rfl) (by decide) ?_
  intro κ hκ C
  subst hκ
  refine x_aloadr_n C dJ0_init_0 1 rfl rfl ?_
  refine x_obj C q409 dJ0_init_1 4 rfl (Nat.le_of_ble_eq_true rfl) (by decide) ?_
  exact x_vret C dJ0_init_4 (Nat.le_refl _) (Nat.le_refl _) (Qv_of rfl)
theorem kJ1_init {a : Nat} (hT : S.1 a = 14) : Ct w l yJ1_init cJ1_init 1 none 2 0 0 [.ref a] S I J (Qv (sto I a 0 (nI 0)) S J) := by
  refine Ct.of [some _] rfl (Nat.le_of_ble_eq_true rfl) (by decide) ?_
  intro κ hκ C
  subst hκ
  refine x_aloadr_n C dJ1_init_0 1 rfl rfl ?_
  refine x_callI C lk_J1_1 dJ1_init_1 4 rfl [] [] rfl rfl hT (by decide) (Nat.le_of_ble_eq_true rfl) (by decide) (Nat.le_refl _) (Nat.le_refl _) kJ0_init ?_
  rintro _ _ _ _ ⟨rfl, rfl, rfl, rfl⟩
  refine x_aloadr_n C dJ1_init_4 5 rfl rfl ?_
  refine x_ic (j := 0) C dJ1_init_5 6 rfl ?_
  refine x_puti C fl_J1_7_14 (Or.inl rfl) (Or.inl rfl) dJ1_init_6 9 rfl hT ?_
  exact x_vret C dJ1_init_9 (Nat.le_refl _) (Nat.le_refl _) (Qv_of rfl)
/-- ArrayList(n), n positive -/
theorem kJ2_init {a t : Nat} (hT : S.1 a = 14) (ht : S.2.2.2 = t) (hb : t < 9999999) (hat : a ≠ t) : Ct w l yJ2_init cJ2_init 2 none 3 1 1 [.ref a, .int (nI 1)] S I J (fun r S' I' J' => r = none ∧ setR (newS S t 107 1) a 1 (some t) = S' ∧ wr (sto I a 0 (nI 0)) t (fun _ => 0) = I' ∧ wr J t (fun _ => 0) = J') := by
  refine Ct.of [some _, some _] rfl (Nat.le_of_ble_eq_true rfl) (by decide) ?_
  intro κ hκ C
  subst hκ
  refine x_aloadr_n C dJ2_init_0 1 rfl rfl ?_
  refine x_callI C lk_J2_1 dJ2_init_1 4 rfl [] [] rfl rfl hT (by decide) (Nat.le_of_ble_eq_true rfl) (by decide) (by decide) (by decide) (kJ1_init hT) ?_
  rintro _ _ _ _ ⟨rfl, rfl, rfl, rfl⟩
  refine x_iload_n C dJ2_init_4 5 rfl rfl ?_
  refine x_ifleN C dJ2_init_5 8 19 rfl (by decide) (by omega) (fun h5 => absurd h5 (by decide)) (fun _ => ?_)
  refine x_aloadr_n C dJ2_init_8 9 rfl rfl ?_
  refine x_iload_n C dJ2_init_9 10 rfl rfl ?_
  refine x_anew C 7 (by decide) rfl (by decide) q410 dJ2_init_10 13 rfl _ ht hb (by decide) (by decide) (by decide) ?_
  have e1 : (newS S t 107 1).1 a = 14 := (newS_n hat).1.trans hT
  refine x_putr C fl_J2_9 (Or.inr ⟨_, rfl⟩) (Or.inl rfl) dJ2_init_13 16 rfl e1 ?_
  refine x_goto C dJ2_init_16 60 (by decide) ?_
  exact x_vret C dJ2_init_60 (by decide) (by decide) ⟨rfl, rfl, rfl, rfl⟩
def twP (a : Nat) (S : Sh) (I : Mi) (J : Ml) (ni fi : Int32) : Option Value → Sh → Mi → Ml → Prop := fun r S' I' J' => r = none ∧ S'.2.2.2 = a + 5 ∧ (∀ b, b < a → S'.1 b = S.1 b ∧ S'.2.1 b = S.2.1 b ∧ S'.2.2.1 b = S.2.2.1 b ∧ I' b = I b ∧ J' b = J b) ∧ S'.1 a = 4 ∧ S'.2.2.1 a 2 = some (a + 1) ∧ S'.2.2.1 a 4 = some (a + 2) ∧ S'.2.2.1 a 5 = some (a + 3) ∧ S'.1 (a + 1) = 106 ∧ S'.2.1 (a + 1) = 10 ∧ S'.1 (a + 2) = 100 ∧ S'.2.1 (a + 2) = 10 ∧ S'.1 (a + 3) = 14 ∧ S'.2.2.1 (a + 3) 1 = some (a + 4) ∧ S'.1 (a + 4) = 107 ∧ S'.2.1 (a + 4) = 1 ∧ I' a 0 = ni ∧ I' a 1 = fi ∧ I' a 3 = 0 ∧ I' (a + 3) 2 = 0 ∧ ∀ p, p < 10 → I' (a + 2) p = -1
theorem kX5_init {a : Nat} (hT : S.1 a = 4) (ht : S.2.2.2 = a + 1) (hb : a < 9999990) (h3 : I a 3 = 0) {ni fi : Int32} : Ct w l yX5_init cX5_init 4 none 4 4 24 [.ref a, .int ni, .int fi] S I J (twP a S I J ni fi) := by
  refine Ct.of [some _, some _, some _, none] rfl (Nat.le_of_ble_eq_true rfl) (by decide) ?_
  intro κ hκ C
  subst hκ
  have hl : ∀ (S1 : Sh) (M : Mi) (J1 : Ml), S1.1 a = 4 → S1.2.2.1 a 4 = some (a + 2) → S1.1 (a + 2) = 100 → S1.2.1 (a + 2) = 10 → twP a S I J ni fi none S1 (lsF M (a + 2) 10) J1 → ∀ j p, p + j = 10 → XX w κ (Zr w κ (twP a S I J ni fi)) (0 + 1 + 1 + 1 + 1) (0 + 10 + 10 + 3 + 1) 45 [some (.ref a), some (.int ni), some (.int fi), some (.int (nI p))] [] S1 (lsF M (a + 2) p) J1 := by
    intro S1 M J1 q1 q2 q3 q4 hQ j
    induction j with
    | zero =>
      intro p hp
      have hp : p = 10 := hp
      subst hp
      refine x_iload_n C dX5_init_45 46 rfl rfl ?_
      refine x_bip (j := 10) C dX5_init_46 48 rfl (by decide) ?_
      refine x_icmpgeN C dX5_init_48 51 64 rfl (by decide) (by omega) (by omega) (fun _ => ?_) (fun h48 => absurd h48 (by decide))
      exact x_vret C dX5_init_64 (by decide) (by decide) hQ
    | succ j ih =>
      intro p hp
      refine x_iload_n C dX5_init_45 46 rfl rfl ?_
      refine x_bip (j := 10) C dX5_init_46 48 rfl (by decide) ?_
      refine x_icmpgeN C dX5_init_48 51 64 rfl (by decide) (by omega) (by omega) (fun h48 => absurd h48 (by omega)) (fun _ => ?_)
      refine x_aloadr_n C dX5_init_51 52 rfl rfl ?_
      refine x_getr C fl_X5_17 (Or.inr ⟨_, rfl⟩) dX5_init_52 55 rfl q1 q2 ?_
      refine x_iload_n C dX5_init_55 56 rfl rfl ?_
      refine x_icm C dX5_init_56 57 rfl ?_
      refine x_iast C dX5_init_57 58 rfl q3 q4 rfl (by omega) (by decide) ?_
      refine x_iinc C dX5_init_58 61 rfl [_, _, _, _] (nI_inc _) (by decide) rfl rfl rfl ?_
      refine x_goto C dX5_init_61 45 (by decide) ?_
      refine x_eqI (lsF_s _ _ _) (ih (p + 1) (by omega))
  refine x_aloadr_n C dX5_init_0 1 rfl rfl ?_
  refine x_obj C q395 dX5_init_1 4 rfl (Nat.le_of_ble_eq_true rfl) (by decide) ?_
  refine x_aloadr_n C dX5_init_4 5 rfl rfl ?_
  refine x_bip (j := 10) C dX5_init_5 7 rfl (by decide) ?_
  refine x_anew C 6 (by decide) rfl (by decide) q396 dX5_init_7 10 rfl (a + 1) ht (by omega) (by decide) (by decide) (by decide) ?_
  refine x_putr C fl_X5_11 (Or.inr ⟨_, rfl⟩) (Or.inr ⟨rfl, _, rfl, rfl⟩) dX5_init_10 13 rfl (by simp [newS_e1, hT]) ?_
  refine x_aloadr_n C dX5_init_13 14 rfl rfl ?_
  refine x_bip (j := 10) C dX5_init_14 16 rfl (by decide) ?_
  refine x_newa C 0 (by decide) rfl q159 dX5_init_16 18 rfl (a + 2) rfl (by omega) (by decide) (by decide) (by decide) ?_
  refine x_putr C fl_X5_17 (Or.inr ⟨_, rfl⟩) (Or.inr ⟨rfl, _, rfl, rfl⟩) dX5_init_18 21 rfl (by simp [newS_e1, setR_e1, hT]) ?_
  refine x_aloadr_n C dX5_init_21 22 rfl rfl ?_
  refine x_new C nl_X5_21 dX5_init_22 25 rfl (a + 3) rfl (by omega) (by decide) (by decide) ?_
  refine x_dup C dX5_init_25 26 rfl rfl ?_
  refine x_ic (j := 1) C dX5_init_26 27 rfl ?_
  refine x_callI C lk_X5_23 dX5_init_27 30 rfl [_] [_, _] rfl rfl (show (newS _ _ _ _).1 _ = 14 from newS_s.1) (by decide) (Nat.le_of_ble_eq_true rfl) (by decide) (by decide) (by decide) (kJ2_init (t := a + 4) newS_s.1 rfl (by omega) (by omega)) ?_
  rintro _ _ _ _ ⟨rfl, rfl, rfl, rfl⟩
  refine x_putr C fl_X5_26 (Or.inl ⟨_, rfl⟩) (Or.inl rfl) dX5_init_30 33 rfl (by simp [newS_e1, setR_e1, hT]) ?_
  refine x_aloadr_n C dX5_init_33 34 rfl rfl ?_
  refine x_iload_n C dX5_init_34 35 rfl rfl ?_
  refine x_puti C fl_X5_30 (Or.inl rfl) (Or.inr ⟨rfl, _, rfl, rfl⟩) dX5_init_35 38 rfl (by simp [newS_e1, setR_e1, hT]) ?_
  refine x_aloadr_n C dX5_init_38 39 rfl rfl ?_
  refine x_iload_n C dX5_init_39 40 rfl rfl ?_
  refine x_puti C fl_X5_34 (Or.inl rfl) (Or.inr ⟨rfl, _, rfl, rfl⟩) dX5_init_40 43 rfl (by simp [newS_e1, setR_e1, hT]) ?_
  refine x_ic (j := 0) C dX5_init_43 44 rfl ?_
  refine x_istore_n C dX5_init_44 45 rfl [_, _, _, _] (by decide) rfl rfl ?_
  refine x_eqI (lsF_0 _ (a + 2)).symm (hl _ _ _ (by simp [newS_e1, setR_e1, hT]) (by simp [newS_e3, setR_e3]) (by simp [newS_e1, setR_e1]) (by simp [newS_e2, setR_e2]) ?_ 10 0 rfl)
  refine ⟨rfl, rfl, fun b hb => ?_, ?_⟩
  · have n0 : ¬ b = a := by omega
    have n1 : ¬ b = a + 1 := by omega
    have n2 : ¬ b = a + 2 := by omega
    have n3 : ¬ b = a + 3 := by omega
    have n4 : ¬ b = a + 4 := by omega
    refine ⟨by simp [newS_e1, setR_e1, n1, n2, n3, n4], by simp [newS_e2, setR_e2, n1, n2, n3, n4], ?_, ?_, ?_⟩
    · funext i
      simp [newS_e3, setR_e3, n0, n1, n2, n3, n4]
    · funext i
      simp [lsF, sto_at, wr_e, n0, n1, n2, n3, n4]
    · funext i
      simp [wr_e, n1, n2, n3, n4]
  · simp [newS_e1, newS_e2, newS_e3, setR_e1, setR_e2, setR_e3, lsF, sto_at, wr_e, hT, h3]
end Co16

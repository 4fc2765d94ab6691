/-! the twin: rules told; what is no part of its state -/
/-- places of the twin's memory that tell nothing -/
def gb (b i : Nat) : Bool := b == 498 || b == 499 || b == 500 || b == 501 || b == 502 || b == 507 || b == 508 || b == 509 || b == 514 || b == 515 || b == 518 || (b == 473 && (i == 0 || (Nat.ble 46 i && Nat.ble i 59) || i == 62))
def gq (A B : Mi) : Prop := ∀ b i, gb b i = false → A b i = B b i
def jq (A B : Ml) : Prop := ∀ b i, ¬ (b = 473 ∧ i = 53) → A b i = B b i
theorem gq_refl (A : Mi) : gq A A := fun _ _ _ => rfl
theorem jq_refl (A : Ml) : jq A A := fun _ _ _ => rfl
theorem gq_trans {A B C : Mi} (h : gq A B) (g : gq B C) : gq A C := fun b i q => (h b i q).trans (g b i q)
theorem jq_trans {A B C : Ml} (h : jq A B) (g : jq B C) : jq A C := fun b i q => (h b i q).trans (g b i q)
theorem gq_symm {A B : Mi} (h : gq A B) : gq B A := fun b i q => (h b i q).symm
theorem gq_sto {A B : Mi} (h : gq A B) (b i : Nat) (v : Int32) : gq (sto A b i v) (sto B b i v) := by
  intro c j q
  rw [sto_at, sto_at]
  split
  · rfl
  · exact h c j q
theorem gq_l {A B : Mi} (h : gq A B) {b i : Nat} (hg : gb b i = true) (v : Int32) : gq (sto A b i v) B := by
  intro c j q
  rw [sto_at]
  split
  · rename_i e; rw [e.1, e.2] at q; rw [q] at hg; cases hg
  · exact h c j q
theorem jq_tm (J : Ml) (u : Int64) : jq (tmJ J u) J := by
  intro b i h
  unfold tmJ
  by_cases hb : b = 473
  · by_cases hi : i = 53
    · exact absurd ⟨hb, hi⟩ h
    · simp [hb, hi]
  · simp [hb]
theorem jq_J {J : Ml} {u : Int64} {A : Ml} (h : A = tmJ J u) : jq A J := h ▸ jq_tm J u
/-- what told leaves, what now leaves -/
def tdq (A B : Mi) : Prop := ∀ b i, b ≠ 507 → ¬ (b = 473 ∧ ((46 ≤ i ∧ i ≤ 53) ∨ i = 58 ∨ i = 59)) → A b i = B b i
def nwq (A B : Mi) : Prop := ∀ b i, b ≠ 507 → ¬ (b = 473 ∧ 46 ≤ i ∧ i ≤ 59) → A b i = B b i
theorem tdq.nw {A B : Mi} (h : tdq A B) : nwq A B := fun b i h1 h2 => h b i h1 (by omega)
theorem nwq.g {A B : Mi} (h : nwq A B) : gq A B := by
  intro b i q
  refine h b i ?_ ?_
  · intro e; subst e; simp [gb] at q
  · rintro ⟨e, h1, h2⟩
    subst e
    have : gb 473 i = true := by simp [gb, Nat.ble_eq, h1, h2]
    rw [this] at q
    cases q
theorem nwq.row {A B : Mi} (h : nwq A B) {b : Nat} (h1 : b ≠ 507) (h2 : b ≠ 473) : A b = B b := funext fun i => h b i h1 (fun q => h2 q.1)
theorem tdq.row {A B : Mi} (h : tdq A B) {b : Nat} (h1 : b ≠ 507) (h2 : b ≠ 473) : A b = B b := h.nw.row h1 h2
theorem nwq_trans {A B C : Mi} (h : nwq A B) (g : nwq B C) : nwq A C := fun b i q1 q2 => (h b i q1 q2).trans (g b i q1 q2)
theorem tdq_trans {A B C : Mi} (h : tdq A B) (g : tdq B C) : tdq A C := fun b i q1 q2 => (h b i q1 q2).trans (g b i q1 q2)
/-- a row is copied -/
def cpO (I : Mi) (a o : Nat) (src : Nat → Int32) : Nat → Mi
  | 0 => I
  | k + 1 => sto (cpO I a o src k) a (o + k) (src k)
theorem cpO_n {I : Mi} {a o : Nat} {src : Nat → Int32} {b : Nat} (h : b ≠ a) : ∀ k, cpO I a o src k b = I b
  | 0 => rfl
  | k + 1 => by rw [cpO, sto_n _ _ _ h, cpO_n h k]
theorem cpO_a {I : Mi} {a o : Nat} {src : Nat → Int32} : ∀ (k i : Nat), cpO I a o src k a i = if o ≤ i ∧ i < o + k then src (i - o) else I a i
  | 0, i => by rw [if_neg (by omega)]; rfl
  | k + 1, i => by
    rw [cpO, sto_at, cpO_a k i]
    by_cases h : i = o + k
    · rw [if_pos ⟨rfl, h⟩, if_pos (by omega), h]; congr 1; omega
    · rw [if_neg (fun q => h q.2)]
      by_cases h2 : o ≤ i ∧ i < o + k
      · rw [if_pos h2, if_pos (by omega)]
      · rw [if_neg h2, if_neg (by omega)]
def byt (x : Int32) : Prop := narrow .byte (.int x) = .int x
/-- a town's text and its rules -/
def txt (I : Mi) (t : Nat) : Nat → Int32 := ct (fun k => I 504 (400 * t + k)) (nt (I 505 t))
def rulesOf (I : Mi) (t : Nat) : List Rul := match pRules (txt I t) (nt (I 505 t)) with
  | .ok L => L
  | .error _ => []
def TxOk (I : Mi) (t : Nat) : Prop := nOk (I 505 t) 400 ∧ (∀ k, k < nt (I 505 t) → byt (I 504 (400 * t + k))) ∧ pRules (txt I t) (nt (I 505 t)) = .ok (rulesOf I t)
def tol (L : List Rul) (kd : Int32) (σ : Nat → Int32) : Int32 := if fnd kd σ L = -1 then nI 0 else fnd kd σ L
/-- what is now, for the rules of a town -/
def stI (I : Mi) (t : Nat) : Nat → Int32 := fun k => match k with
  | 0 => I 473 15 + I 484 t - I 473 14
  | 1 => nI (heldN I t (rn I t))
  | 2 => nI (usedN I (pn I) t (rn I t))
  | 3 => nI (peopN I t (pn I))
  | _ => I 473 16
def asS (I : Mi) (t : Nat) : Mi := sto (sto (sto (sto I 473 54 (I 473 15 + I 484 t - I 473 14)) 473 55 (nI (heldN I t (rn I t)))) 473 56 (nI (usedN I (pn I) t (rn I t)))) 473 57 (nI (peopN I t (pn I)))
theorem asS_sg (I : Mi) (t : Nat) : sg (asS I t) = stI I t := by
  funext k
  match k with
  | 0 => rfl
  | 1 => rfl
  | 2 => rfl
  | 3 => rfl
  | _ + 4 => rfl
theorem asS_q (I : Mi) (t : Nat) : nwq (asS I t) I := by
  intro b i h1 h2
  unfold asS
  simp only [sto_at]
  by_cases hb : b = 473
  · subst hb
    have : ¬ (46 ≤ i ∧ i ≤ 59) := fun q => h2 ⟨rfl, q⟩
    rw [if_neg (by omega), if_neg (by omega), if_neg (by omega), if_neg (by omega)]
  · simp [hb]
abbrev Qf (fr : Mi → Mi → Prop) (v : Int32) (S : Sh) (I : Mi) (J : Ml) : Option Value → Sh → Mi → Ml → Prop := fun r S' I' J' => S = S' ∧ r = some (.int v) ∧ fr I' I ∧ jq J' J
section Tw11
variable {w : Wd} {l : Launch} {S : Sh} {I : Mi} {J : Ml}
theorem kX3_told (hS : twS S) {t : Nat} (ht : t < 6) (hT : TxOk I t) {kd : Int32} : Ct w l yX3_told cX3_told 4 (some .int) 28 0 0 [.ref 473, .int (nI t), .int kd] S I J (Qf tdq (tol (rulesOf I t) kd (sg I)) S I J) := by
  obtain ⟨⟨hn, hn2⟩, hb, hr⟩ := hT
  generalize hnn : nt (I 505 t) = n at *
  refine Ct.of [some _, some _, some _, none] rfl (Nat.le_of_ble_eq_true rfl) (by decide) ?_
  intro κ hκ C
  subst hκ
  refine x_aloadr_n C dX3_told_0 1 rfl rfl ?_
  refine x_aloadr_n C dX3_told_1 2 rfl rfl ?_
  refine x_getr C fl_X3_115 (Or.inr ⟨_, rfl⟩) dX3_told_2 5 rfl hS.1 (twR_textLong hS) ?_
  refine x_iload_n C dX3_told_5 6 rfl rfl ?_
  refine x_iald C dX3_told_6 7 rfl (twA_textLong hS) (twN_textLong hS) rfl (by omega) (by decide) hn ?_
  refine x_puti C fl_X3_252 (Or.inl rfl) (Or.inl rfl) dX3_told_7 10 rfl hS.1 ?_
  refine x_ic (j := 0) C dX3_told_10 11 rfl ?_
  refine x_istore_n C dX3_told_11 12 rfl [_, _, _, _] (by decide) rfl rfl ?_
  have hloop12 : ∀ (j k : Nat), k + j = n → XX w κ (Zr w κ (Qf tdq (tol (rulesOf I t) kd (sg I)) S I J)) 0 0 12 [some (.ref 473), some (.int (nI t)), some (.int kd), some (.int (nI k))] [] S (cpO (sto I 473 46 (nI n)) 507 0 (fun k => I 504 (400 * t + k)) k) J := by
    intro j
    induction j with
    | zero =>
      intro k  e12
      have e12 : n = k := Eq.symm e12
      subst e12
      have hz : cpO (sto I 473 46 (nI n)) 507 0 (fun k => I 504 (400 * t + k)) n 473 46 = nI n := (congrFun (cpO_n (by decide) _) 46).trans (sto_ss _ _ _ _)
      have htx : ct (cpO (sto I 473 46 (nI n)) 507 0 (fun k => I 504 (400 * t + k)) n 507) n = txt I t := by
        funext i
        unfold txt ct
        rw [hnn]
        by_cases hi : i < n
        · rw [if_pos hi, if_pos hi, cpO_a, if_pos (by omega), Nat.sub_zero]
        · rw [if_neg hi, if_neg hi]
      have hsg : sg (cpO (sto I 473 46 (nI n)) 507 0 (fun k => I 504 (400 * t + k)) n) = sg I := by
        funext k
        unfold sg
        rw [cpO_n (by decide)]
        split <;> rfl
      have hfr : ∀ (rd fd a p k d f g : Int32), tdq (tmI (rB (cpO (sto I 473 46 (nI n)) 507 0 (fun k => I 504 (400 * t + k)) n) rd fd) a p k d f g) I := by
        intro rd fd a p k d f g b i h1 h2
        by_cases hb : b = 473
        · subst hb
          have h2 : ¬ ((46 ≤ i ∧ i ≤ 53) ∨ i = 58 ∨ i = 59) := fun q => h2 ⟨rfl, q⟩
          rw [trs _ _ _ _ _ _ _ (by omega)]
          unfold rB
          rw [sto_kn _ _ _ _ (by omega), sto_kn _ _ _ _ (by omega), cpO_n (by decide), sto_kn _ _ _ _ (by omega)]
        · rw [trn _ _ _ _ _ _ _ hb]
          unfold rB
          rw [sto_n _ _ _ hb, sto_n _ _ _ hb, cpO_n h1, sto_n _ _ _ hb]
      refine x_iload_n C dX3_told_12 13 rfl rfl ?_
      refine x_aloadr_n C dX3_told_13 14 rfl rfl ?_
      refine x_geti C fl_X3_252 (Or.inl rfl) dX3_told_14 17 rfl hS.1 ((congrFun (cpO_n (by decide) _) 46).trans (sto_ss _ _ _ _)) ?_
      refine x_icmpgeN C dX3_told_17 20 44 rfl (by decide) (by omega) (by omega) (fun _ => ?_) (fun h17 => absurd h17 (by omega))
      refine x_aloadr_n C dX3_told_44 45 rfl rfl ?_
      refine x_iload_n C dX3_told_45 46 rfl rfl ?_
      refine x_callV C lk_X3_372 dX3_told_46 49 rfl [_] [] rfl rfl hS.1 (Nat.le_of_ble_eq_true rfl) (by decide) (Nat.le_refl _) (Nat.le_refl _) (kX3_goes hS hz hn2 htx) ?_
      rintro _ _ _ _ ⟨rfl, rfl, a1, p1, k1, d1, u1, rfl, ⟨L, fp, e1, rfl⟩ | ⟨e, rd, fd, e1, rfl⟩⟩
      · rw [hr] at e1
        cases e1
        rw [hsg]
        refine x_aloadr_n C dX3_told_49 50 rfl rfl ?_
        refine x_geti C fl_X3_364 (Or.inl rfl) dX3_told_50 53 rfl hS.1 ((trs _ _ _ _ _ _ _ (by omega)).trans (show rB (cpO (sto I 473 46 (nI n)) 507 0 (fun k => I 504 (400 * t + k)) n) (nI (rulesOf I t).length) (fnd kd (sg I) (rulesOf I t)) 473 59 = fnd kd (sg I) (rulesOf I t) from rfl)) ?_
        refine x_icm C dX3_told_53 54 rfl ?_
        refine x_icmpne C dX3_told_54 57 61 rfl (by decide) (fun h54 => ?_) (fun h54 => ?_)
        · refine x_aloadr_n C dX3_told_61 62 rfl rfl ?_
          refine x_geti C fl_X3_364 (Or.inl rfl) dX3_told_62 65 rfl hS.1 ((trs _ _ _ _ _ _ _ (by omega)).trans (show rB (cpO (sto I 473 46 (nI n)) 507 0 (fun k => I 504 (400 * t + k)) n) (nI (rulesOf I t).length) (fnd kd (sg I) (rulesOf I t)) 473 59 = fnd kd (sg I) (rulesOf I t) from rfl)) ?_
          exact x_iret C dX3_told_65 (Nat.le_refl _) (Nat.le_refl _) ⟨rfl, by unfold tol; first | rw [if_pos h54] | rw [if_neg h54], hfr _ _ _ _ _ _ _ _, jq_tm _ _⟩
        · refine x_ic (j := 0) C dX3_told_57 58 rfl ?_
          refine x_goto C dX3_told_58 65 (by decide) ?_
          exact x_iret C dX3_told_65 (Nat.le_refl _) (Nat.le_refl _) ⟨rfl, by unfold tol; first | rw [if_pos h54] | rw [if_neg h54], hfr _ _ _ _ _ _ _ _, jq_tm _ _⟩
      · rw [hr] at e1
        cases e1
    | succ j ih12 =>
      intro k  e12
      refine x_iload_n C dX3_told_12 13 rfl rfl ?_
      refine x_aloadr_n C dX3_told_13 14 rfl rfl ?_
      refine x_geti C fl_X3_252 (Or.inl rfl) dX3_told_14 17 rfl hS.1 ((congrFun (cpO_n (by decide) _) 46).trans (sto_ss _ _ _ _)) ?_
      refine x_icmpgeN C dX3_told_17 20 44 rfl (by decide) (by omega) (by omega) (fun h17 => absurd h17 (by omega)) (fun _ => ?_)
      refine x_aloadr_n C dX3_told_20 21 rfl rfl ?_
      refine x_getr C fl_X3_121 (Or.inr ⟨_, rfl⟩) dX3_told_21 24 rfl hS.1 (twR_text hS) ?_
      refine x_iload_n C dX3_told_24 25 rfl rfl ?_
      refine x_aloadr_n C dX3_told_25 26 rfl rfl ?_
      refine x_getr C fl_X3_112 (Or.inr ⟨_, rfl⟩) dX3_told_26 29 rfl hS.1 (twR_texts hS) ?_
      refine x_sip (j := 400) C dX3_told_29 32 rfl (by decide) ?_
      refine x_iload_n C dX3_told_32 33 rfl rfl ?_
      refine x_imul C dX3_told_33 34 rfl (pk_mul _ _) ?_
      refine x_iload_n C dX3_told_34 35 rfl rfl ?_
      refine x_iadd C dX3_told_35 36 rfl (nI_add _ _) ?_
      refine x_bald C dX3_told_36 37 rfl (twA_texts hS) (twN_texts hS) rfl (by omega) (by decide) ((congrFun (cpO_n (b := 504) (by decide) _) _).trans (show sto I 473 46 (nI n) 504 (400 * t + k) = I 504 (400 * t + k) from rfl)) ?_
      refine x_bast C dX3_told_37 38 rfl (twA_text hS) (twN_text hS) rfl (by omega) (by decide) (hb _ (by omega)) ?_
      refine x_iinc C dX3_told_38 41 rfl [_, _, _, _] (nI_inc _) (by decide) rfl rfl rfl ?_
      refine x_goto C dX3_told_41 12 (by decide) ?_
      refine x_eqI (by rw [cpO, Nat.zero_add]) (ih12 (k + 1) (by omega))
  exact hloop12 n 0 (Nat.zero_add _)
theorem kX3_now (hS : twS S) (hI : Tok I) {t : Nat} (ht : t < 6) (hT : TxOk I t) {kd : Int32} : Ct w l yX3_now cX3_now 3 (some .int) 29 0 0 [.ref 473, .int (nI t), .int kd] S I J (Qf nwq (tol (rulesOf I t) kd (stI I t)) S I J) := by
  refine Ct.of [some _, some _, some _] rfl (Nat.le_of_ble_eq_true rfl) (by decide) ?_
  intro κ hκ C
  subst hκ
  have hp10 := tk_p2 hI
  have ht6 := tk_t2 hI
  have hg30 := tk_g2 hI
  have hc30 := tk_c2 hI
  have hn500 := tk_n2 hI
  have hr := tk_r hI ht
  have hr2 := tk_r2 hI ht
  refine x_aloadr_n C dX3_now_0 1 rfl rfl ?_
  refine x_aloadr_n C dX3_now_1 2 rfl rfl ?_
  refine x_geti C fl_X3_42 (Or.inl rfl) dX3_now_2 5 rfl hS.1 rfl ?_
  refine x_aloadr_n C dX3_now_5 6 rfl rfl ?_
  refine x_getr C fl_X3_48 (Or.inr ⟨_, rfl⟩) dX3_now_6 9 rfl hS.1 (twR_first hS) ?_
  refine x_iload_n C dX3_now_9 10 rfl rfl ?_
  refine x_iald C dX3_now_10 11 rfl (twA_first hS) (twN_first hS) rfl (by omega) (by decide) rfl ?_
  refine x_iadd C dX3_now_11 12 rfl rfl ?_
  refine x_aloadr_n C dX3_now_12 13 rfl rfl ?_
  refine x_geti C fl_X3_183 (Or.inl rfl) dX3_now_13 16 rfl hS.1 rfl ?_
  refine x_isub C dX3_now_16 17 rfl rfl ?_
  refine x_puti C fl_X3_322 (Or.inl rfl) (Or.inl rfl) dX3_now_17 20 rfl hS.1 ?_
  refine x_aloadr_n C dX3_now_20 21 rfl rfl ?_
  refine x_aloadr_n C dX3_now_21 22 rfl rfl ?_
  refine x_iload_n C dX3_now_22 23 rfl rfl ?_
  refine x_callV C lk_X3_375 dX3_now_23 26 rfl [_] [_] rfl rfl hS.1 (Nat.le_of_ble_eq_true rfl) (by decide) (Nat.le_refl _) (Nat.le_refl _) (kX3_heldIn hS ht (m := rn I t) hr hr2) ?_
  rintro _ _ _ _ ⟨rfl, rfl, rfl, rfl⟩
  refine x_puti C fl_X3_327 (Or.inl rfl) (Or.inl rfl) dX3_now_26 29 rfl hS.1 ?_
  refine x_aloadr_n C dX3_now_29 30 rfl rfl ?_
  refine x_aloadr_n C dX3_now_30 31 rfl rfl ?_
  refine x_iload_n C dX3_now_31 32 rfl rfl ?_
  refine x_callV C lk_X3_378 dX3_now_32 35 rfl [_] [_] rfl rfl hS.1 (Nat.le_of_ble_eq_true rfl) (by decide) (Nat.le_refl _) (Nat.le_refl _) (kX3_usedIn hS (n := pn I) (m := rn I t) (tk_p hI) hp10 ht hr hr2) ?_
  rintro _ _ _ _ ⟨rfl, rfl, rfl, rfl⟩
  refine x_puti C fl_X3_332 (Or.inl rfl) (Or.inl rfl) dX3_now_35 38 rfl hS.1 ?_
  refine x_aloadr_n C dX3_now_38 39 rfl rfl ?_
  refine x_aloadr_n C dX3_now_39 40 rfl rfl ?_
  refine x_iload_n C dX3_now_40 41 rfl rfl ?_
  refine x_callV C lk_X3_381 dX3_now_41 44 rfl [_] [_] rfl rfl hS.1 (Nat.le_of_ble_eq_true rfl) (by decide) (Nat.le_refl _) (Nat.le_refl _) (kX3_peopleIn hS (n := pn I) (tk_p hI) hp10 ht) ?_
  rintro _ _ _ _ ⟨rfl, rfl, rfl, rfl⟩
  refine x_puti C fl_X3_337 (Or.inl rfl) (Or.inl rfl) dX3_now_44 47 rfl hS.1 ?_
  refine x_eqI (show _ = asS I t from rfl) ?_
  refine x_aloadr_n C dX3_now_47 48 rfl rfl ?_
  refine x_iload_n C dX3_now_48 49 rfl rfl ?_
  refine x_iload_n C dX3_now_49 50 rfl rfl ?_
  refine x_callV C lk_X3_384 dX3_now_50 53 rfl [_, _] [] rfl rfl hS.1 (Nat.le_of_ble_eq_true rfl) (by decide) (Nat.le_refl _) (Nat.le_refl _) (kX3_told hS ht (I := asS I t) hT) ?_
  rintro _ _ I1 J1 ⟨rfl, rfl, hf, hj⟩
  exact x_iret C dX3_now_53 (Nat.le_refl _) (Nat.le_refl _) ⟨rfl, by rw [asS_sg]; rfl, nwq_trans hf.nw (asS_q I t), hj⟩
end Tw11

/-! the twin: a trip; sets that may be in a room -/
def trX (I : Mi) (mi : Int32) : TS := trG (I 513) (I 510) (I 511) (I 512) (sN I) 7 0 0 0 mi (nI 0) (nI 0) (nI 0) (nI 0, mi, nI 0, nI 0, I 516, I 517, I 514, I 515)
def sp_trip (I : Mi) (mi : Int32) : Int32 × Mi := if inB mi (nI 0) (nI 1440) then ((trX I mi).1, trM (sto I 473 70 (nI 1)) (trX I mi)) else no1 I
theorem trM_self (I : Mi) : trM I (I 473 71, I 473 72, I 473 73, I 473 74, I 516, I 517, I 514, I 515) = I := by
  funext b i
  unfold trM
  by_cases h : b = 473
  · subst h
    by_cases h1 : i = 71
    · subst h1; rfl
    · by_cases h2 : i = 72
      · subst h2; rfl
      · by_cases h3 : i = 73
        · subst h3; rfl
        · by_cases h4 : i = 74
          · subst h4; rfl
          · simp [h1, h2, h3, h4]
  · by_cases h1 : b = 516
    · subst h1; rfl
    · by_cases h2 : b = 517
      · subst h2; rfl
      · by_cases h3 : b = 514
        · subst h3; rfl
        · by_cases h4 : b = 515
          · subst h4; rfl
          · simp [h, h1, h2, h3, h4]
section Tw19
variable {w : Wd} {l : Launch} {S : Sh} {I : Mi} {J : Ml}
theorem kX3_trip (hS : twS S) (hI : Tok I) {mi : Int32} : Ct w l yX3_trip cX3_trip 2 (some .int) 10 0 0 [.ref 473, .int mi] S I J (Qm (sp_trip I mi) S J) := by
  refine Ct.of [some _, some _] rfl (Nat.le_of_ble_eq_true rfl) (by decide) ?_
  intro κ hκ C
  subst hκ
  refine x_iload_n C dX3_trip_0 1 rfl rfl ?_
  refine x_ic (j := 0) C dX3_trip_1 2 rfl ?_
  refine x_sip (j := 1440) C dX3_trip_2 5 rfl (by decide) ?_
  refine x_callS C lk_X3_160 dX3_trip_5 8 rfl [_, _, _] [] rfl rfl (Nat.le_of_ble_eq_true rfl) (by decide) (Nat.le_refl _) (Nat.le_refl _) kX3_in ?_
  rintro _ _ _ _ ⟨rfl, rfl, rfl, rfl⟩
  refine x_ifneZ C dX3_trip_8 11 13 rfl (by decide) (fun h8 => ?_) (fun h8 => ?_)
  · refine x_aloadr_n C dX3_trip_13 14 rfl rfl ?_
    refine x_ic (j := 1) C dX3_trip_14 15 rfl ?_
    refine x_puti C fl_X3_428 (Or.inr ⟨Or.inl rfl, ⟨rfl, rfl⟩⟩) (Or.inl rfl) dX3_trip_15 18 rfl hS.1 ?_
    refine x_eqI (trM_self _).symm ?_
    refine x_aloadr_n C dX3_trip_18 19 rfl rfl ?_
    refine x_ic (j := 0) C dX3_trip_19 20 rfl ?_
    refine x_puti C fl_X3_416 (Or.inl rfl) (Or.inl rfl) dX3_trip_20 23 rfl hS.1 ?_
    refine x_eqI (s71 _ _ _ _ _ _ _ _ _ _) ?_
    refine x_aloadr_n C dX3_trip_23 24 rfl rfl ?_
    refine x_iload_n C dX3_trip_24 25 rfl rfl ?_
    refine x_puti C fl_X3_419 (Or.inl rfl) (Or.inl rfl) dX3_trip_25 28 rfl hS.1 ?_
    refine x_eqI (s72 _ _ _ _ _ _ _ _ _ _) ?_
    refine x_aloadr_n C dX3_trip_28 29 rfl rfl ?_
    refine x_ic (j := 0) C dX3_trip_29 30 rfl ?_
    refine x_puti C fl_X3_422 (Or.inl rfl) (Or.inl rfl) dX3_trip_30 33 rfl hS.1 ?_
    refine x_eqI (s73 _ _ _ _ _ _ _ _ _ _) ?_
    refine x_aloadr_n C dX3_trip_33 34 rfl rfl ?_
    refine x_ic (j := 0) C dX3_trip_34 35 rfl ?_
    refine x_puti C fl_X3_425 (Or.inl rfl) (Or.inl rfl) dX3_trip_35 38 rfl hS.1 ?_
    refine x_eqI (s74 _ _ _ _ _ _ _ _ _ _) ?_
    refine x_aloadr_n C dX3_trip_38 39 rfl rfl ?_
    refine x_ic (j := 0) C dX3_trip_39 40 rfl ?_
    refine x_ic (j := 0) C dX3_trip_40 41 rfl ?_
    refine x_ic (j := 0) C dX3_trip_41 42 rfl ?_
    refine x_iload_n C dX3_trip_42 43 rfl rfl ?_
    refine x_ic (j := 0) C dX3_trip_43 44 rfl ?_
    refine x_ic (j := 0) C dX3_trip_44 45 rfl ?_
    refine x_ic (j := 0) C dX3_trip_45 46 rfl ?_
    refine x_callV C lk_X3_412 dX3_trip_46 49 rfl [_, _, _, _, _, _, _] [] rfl rfl hS.1 (Nat.le_of_ble_eq_true rfl) (by decide) (Nat.le_refl _) (Nat.le_refl _) (kX3_goesOn hS (I := sto I 473 70 (nI 1)) hI 7 0 0 0 mi (nI 0) (nI 0) (nI 0) _ rfl (by decide) ⟨by decide, rfl⟩) ?_
    rintro _ _ _ _ ⟨rfl, rfl, rfl, rfl⟩
    refine x_aloadr_n C dX3_trip_49 50 rfl rfl ?_
    refine x_geti C fl_X3_416 (Or.inl rfl) dX3_trip_50 53 rfl hS.1 (show trM _ _ 473 71 = (trX I mi).1 from rfl) ?_
    exact x_iret C dX3_trip_53 (Nat.le_refl _) (Nat.le_refl _) (Qm_of (by rw [sp_trip, if_pos h8]; rfl))
  · refine x_icm C dX3_trip_11 12 rfl ?_
    exact x_iret C dX3_trip_12 (Nat.le_refl _) (Nat.le_refl _) (Qm_of (by simp [sp_trip, no1, h8]))
end Tw19
def al (I : Mi) (t : Nat) : Nat := msk (fun p => thB I p (nI t)) (pn I)
def mP (I : Mi) (t r s : Nat) : Bool := decide (nd s (al I t) = 0) && mbB I (10 * t + r) s (pn I)
theorem al_lt (I : Mi) (t : Nat) (h : pn I ≤ 10) : al I t < 1024 := Nat.lt_of_lt_of_le (msk_lt _ _) (Nat.pow_le_pow_right (by decide) h)
theorem mb_cnt {I : Mi} {a s : Nat} : ∀ {p n : Nat} {one : Int32}, mb I a s p = some (n, one) → n = cnt s.testBit p
  | 0, n, one, h => by cases h; rfl
  | p + 1, n, one, h => by
    unfold mb at h
    split at h
    · cases h
    · rename_i n1 one1 h1
      have ih := mb_cnt h1
      split at h
      · rename_i hb
        split at h
        · cases h
        · cases h; rw [cnt_t hb, ih]
      · rename_i hb
        cases h; rw [cnt_f (by simpa using hb), ih]
theorem mb_beds {I : Mi} {a s m : Nat} (hb : I 486 a = nI m) (hm : 1 ≤ m ∧ m ≤ 2) : ∀ {p n : Nat} {one : Int32}, p ≤ 10 → mb I a s p = some (n, one) → n ≤ m
  | 0, n, one, hp, h => by cases h; omega
  | p + 1, n, one, hp, h => by
    unfold mb at h
    split at h
    · cases h
    · rename_i n1 one1 h1
      have ih := mb_beds hb hm (by omega) h1
      split at h
      · split at h
        · cases h
        · rename_i hc
          cases h
          have : ¬ n1 = m := fun q => hc (Or.inr (Or.inr (Or.inl (by rw [hb, q]))))
          omega
      · cases h; exact ih
theorem nd0 {s a : Nat} : nd s a = 0 ↔ ∀ i, s.testBit i = true → a.testBit i = true := by
  constructor
  · intro h i hi
    have := congrArg (fun z => z.testBit i) h
    simp only [nd_bit, hi, Nat.zero_testBit] at this
    simpa using this
  · intro h
    apply Nat.eq_of_testBit_eq
    intro i
    rw [nd_bit, Nat.zero_testBit]
    cases hs : s.testBit i with
    | false => rfl
    | true => rw [h i hs]; rfl
theorem cnt_hi {P : Nat → Bool} {m n : Nat} (h : m ≤ n) (hz : ∀ i, m ≤ i → i < n → P i = false) : cnt P n = cnt P m := by
  induction n with
  | zero => rw [Nat.le_zero.mp h]
  | succ n ih =>
    rcases Nat.lt_or_ge n m with q | q
    · rw [show m = n + 1 by omega]
    · rw [cnt_f (hz n q (by omega))]
      exact ih q (fun i h1 h2 => hz i h1 (by omega))
theorem cnt_imp {P Q : Nat → Bool} (h : ∀ i, P i = true → Q i = true) : ∀ n, cnt P n ≤ cnt Q n
  | 0 => Nat.le_refl _
  | n + 1 => by
    have ih := cnt_imp h n
    unfold cnt
    cases hP : P n with
    | true => rw [h n hP]; simp; exact ih
    | false => exact Nat.le_trans (show cnt P n + (if false = true then 1 else 0) ≤ cnt Q n by simpa using ih) (Nat.le_add_right _ _)
theorem few56 : cnt (fun s => decide (cnt s.testBit 10 ≤ 2)) 1024 = 56 := by decide +kernel
theorem mP_few {I : Mi} {t r m : Nat} (hp : pn I ≤ 10) (hb : I 486 (10 * t + r) = nI m) (hm : 1 ≤ m ∧ m ≤ 2) {s : Nat} (h : mP I t r s = true) : cnt s.testBit 10 ≤ 2 := by
  unfold mP at h
  simp only [Bool.and_eq_true, decide_eq_true_eq] at h
  obtain ⟨h1, h2⟩ := h
  unfold mbB at h2
  obtain ⟨⟨n, one⟩, e⟩ := Option.isSome_iff_exists.mp h2
  have hle := mb_beds hb hm hp e
  have hc := mb_cnt e
  rw [cnt_hi hp (fun i q1 q2 => ?_), ← hc]
  · omega
  · cases hi : s.testBit i with
    | false => rfl
    | true =>
      have := nd0.mp h1 i hi
      unfold al at this
      rw [msk_bit] at this
      simp at this
      omega
theorem mP_cnt {I : Mi} {t r m : Nat} (hp : pn I ≤ 10) (hb : I 486 (10 * t + r) = nI m) (hm : 1 ≤ m ∧ m ≤ 2) {s : Nat} (hs : s ≤ 1024) : cnt (mP I t r) s ≤ 56 := by
  have h1 := cnt_imp (P := mP I t r) (Q := fun s => decide (cnt s.testBit 10 ≤ 2)) (fun i hi => decide_eq_true (mP_few hp hb hm hi)) s
  have h2 := cnt_mono (fun s => decide (cnt s.testBit 10 ≤ 2)) hs
  rw [few56] at h2
  omega
/-- what the sets are kept by -/
def seq (A B : Mi) : Prop := ∀ b i, b ≠ 498 → b ≠ 499 → A b i = B b i
def maOk (I M : Mi) (t r : Nat) : Prop := M 499 r = nI (cnt (mP I t r) 1024) ∧ ∀ x, x < 1024 → mP I t r x = true → M 498 (64 * r + cnt (mP I t r) x) = nI x
def bedsOk (I : Mi) (t : Nat) : Prop := ∀ r, r < rn I t → ∃ m, (1 ≤ m ∧ m ≤ 2) ∧ I 486 (10 * t + r) = nI m
theorem thB_q {A B : Mi} (h1 : A 480 = B 480) (h2 : A 478 = B 478) (h3 : A 479 = B 479) (p : Nat) (t : Int32) : thB A p t = thB B p t := by unfold thB; rw [h1, h2, h3]
theorem shB_q {A B : Mi} (h1 : A 481 = B 481) (h2 : A 474 = B 474) (h3 : A 475 = B 475) (h4 : A 482 = B 482) (a b : Nat) : shB A a b = shB B a b := by unfold shB; rw [h1, h2, h3, h4]
theorem mb_q {A B : Mi} (h1 : A 481 = B 481) (h2 : A 474 = B 474) (h3 : A 475 = B 475) (h4 : A 482 = B 482) (h5 : A 489 = B 489) (h6 : A 476 = B 476) (h7 : A 487 = B 487) (h8 : A 486 = B 486) (a s : Nat) : ∀ p, mb A a s p = mb B a s p
  | 0 => rfl
  | p + 1 => by
    rw [mb, mb, mb_q h1 h2 h3 h4 h5 h6 h7 h8 a s p]
    cases mb B a s p with
    | none => rfl
    | some q =>
      obtain ⟨n, one⟩ := q
      show (if s.testBit p = true then if A 489 a = 0 ∨ _ then none else some (n + 1, nI p) else some (n, one)) = (if s.testBit p = true then if B 489 a = 0 ∨ _ then none else some (n + 1, nI p) else some (n, one))
      rw [h5, h6, h7, h8, shB_q h1 h2 h3 h4]
theorem seq.row {A B : Mi} (h : seq A B) {b : Nat} (h1 : b ≠ 498) (h2 : b ≠ 499) : A b = B b := funext fun i => h b i h1 h2
theorem seq.mbB {A B : Mi} (h : seq A B) (a s n : Nat) : mbB A a s n = mbB B a s n := by
  unfold Jvm.Pilot.CTourRoomsLaw_law_r9702_79c4d9.mbB
  rw [mb_q (h.row (by decide) (by decide)) (h.row (by decide) (by decide)) (h.row (by decide) (by decide)) (h.row (by decide) (by decide)) (h.row (by decide) (by decide)) (h.row (by decide) (by decide)) (h.row (by decide) (by decide)) (h.row (by decide) (by decide))]
theorem seq.g {A B : Mi} (h : seq A B) : gq A B := by
  intro b i q
  refine h b i ?_ ?_
  · intro e; subst e; simp [gb] at q
  · intro e; subst e; simp [gb] at q
theorem seq.tok {A B : Mi} (h : seq A B) (hB : Tok B) : Tok A := by
  have r := h.row (b := 473) (by decide) (by decide)
  have r2 := h.row (b := 485) (by decide) (by decide)
  unfold Tok
  rw [r, r2]
  exact hB
section Tw19
variable {w : Wd} {l : Launch} {S : Sh} {I : Mi} {J : Ml}
theorem kX3_findSets (hS : twS S) (hI : Tok I) {t : Nat} (ht : t < 6) (hbe : bedsOk I t) : Ct w l yX3_findSets cX3_findSets 5 none 3 0 0 [.ref 473, .int (nI t)] S I J (fun r S' I' J' => r = none ∧ S = S' ∧ seq I' I ∧ (∀ r, r < rn I t → maOk I I' t r) ∧ J = J') := by
  have hp10 := tk_p2 hI
  have hr10 := tk_r2 hI ht
  have hal := al_lt I t hp10
  refine Ct.of [some _, some _, none, none, none] rfl (Nat.le_of_ble_eq_true rfl) (by decide) ?_
  intro κ hκ C
  subst hκ
  have hR : ∀ (j r : Nat) (M : Mi), r + j = rn I t → seq M I → (∀ i, i < r → maOk I M t i) → XX w κ (Zr w κ (fun r S' I' J' => r = none ∧ S = S' ∧ seq I' I ∧ (∀ r, r < rn I t → maOk I I' t r) ∧ J = J')) 0 0 8 [some (.ref 473), some (.int (nI t)), some (.int (nI (al I t))), some (.int (nI r)), none] [] S M J := by
    intro j
    induction j with
    | zero =>
      intro r M hr hM hma
      have hr : rn I t = r := Eq.symm hr
      subst hr
      have r5 : M 485 t = nI (rn I t) := (congrFun (hM.row (b := 485) (by decide) (by decide)) t).trans (tk_r hI ht)
      refine x_iload_n C dX3_findSets_8 9 rfl rfl ?_
      refine x_aloadr_n C dX3_findSets_9 10 rfl rfl ?_
      refine x_getr C fl_X3_51 (Or.inr ⟨_, rfl⟩) dX3_findSets_10 13 rfl hS.1 (twR_rooms hS) ?_
      refine x_iload_n C dX3_findSets_13 14 rfl rfl ?_
      refine x_iald C dX3_findSets_14 15 rfl (twA_rooms hS) (twN_rooms hS) rfl (by omega) (by decide) r5 ?_
      refine x_icmpgeN C dX3_findSets_15 18 99 rfl (by decide) (by omega) (by omega) (fun _ => ?_) (fun h15 => absurd h15 (by omega))
      exact x_vret C dX3_findSets_99 (Nat.le_refl _) (Nat.le_refl _) ⟨rfl, rfl, hM, hma, rfl⟩
    | succ j ih =>
      intro r M hr hM hma
      obtain ⟨m, hm, hb⟩ := hbe r (by omega)
      have hX : ∀ (j s : Nat) (M : Mi), s + j = 1024 → seq M I → (∀ i, i < r → maOk I M t i) → M 499 r = nI (cnt (mP I t r) s) → (∀ x, x < s → mP I t r x = true → M 498 (64 * r + cnt (mP I t r) x) = nI x) → XX w κ (Zr w κ (fun r S' I' J' => r = none ∧ S = S' ∧ seq I' I ∧ (∀ r, r < rn I t → maOk I I' t r) ∧ J = J')) 0 0 28 [some (.ref 473), some (.int (nI t)), some (.int (nI (al I t))), some (.int (nI r)), some (.int (nI s))] [] S M J := by
        intro j
        induction j with
        | zero =>
          intro s M hs hM hma h1 h2
          have hs : s = 1024 := hs
          subst hs
          refine x_iload C dX3_findSets_28 30 rfl rfl ?_
          refine x_sip (j := 1024) C dX3_findSets_30 33 rfl (by decide) ?_
          refine x_icmpgeN C dX3_findSets_33 36 93 rfl (by decide) (by omega) (by omega) (fun _ => ?_) (fun h33 => absurd h33 (by omega))
          refine x_iinc C dX3_findSets_93 96 rfl [_, _, _, _, _] (nI_inc _) (by decide) rfl rfl rfl ?_
          refine x_goto C dX3_findSets_96 8 (by decide) ?_
          refine x_ls [some _, some _, some _, some _, none] ⟨rfl, rfl, rfl, rfl, trivial⟩ ?_
          refine ih (r + 1) M (by omega) hM (fun i hi => ?_)
          by_cases e : i = r
          · subst e; exact ⟨h1, h2⟩
          · exact hma i (by omega)
        | succ j ih2 =>
          intro s M hs hM hma h1 h2
          have hcs := mP_cnt hp10 hb hm (show s ≤ 1024 by omega)
          refine x_iload C dX3_findSets_28 30 rfl rfl ?_
          refine x_sip (j := 1024) C dX3_findSets_30 33 rfl (by decide) ?_
          refine x_icmpgeN C dX3_findSets_33 36 93 rfl (by decide) (by omega) (by omega) (fun h33 => absurd h33 (by omega)) (fun _ => ?_)
          refine x_iload C dX3_findSets_36 38 rfl rfl ?_
          refine x_iload_n C dX3_findSets_38 39 rfl rfl ?_
          refine x_icm C dX3_findSets_39 40 rfl ?_
          refine x_ixor C dX3_findSets_40 41 rfl rfl ?_
          refine x_iand C dX3_findSets_41 42 rfl (nI_nd _ _) ?_
          refine x_ifneN C dX3_findSets_42 45 87 rfl (by decide) (by have := nd_lt (n := 10) (q := al I t) (show s < 2 ^ 10 by omega); omega) (fun h42 => ?_) (fun h42 => ?_)
          · refine x_iinc C dX3_findSets_87 90 rfl [_, _, _, _, _] (nI_inc _) (by decide) rfl rfl rfl ?_
            refine x_goto C dX3_findSets_90 28 (by decide) ?_
            first
              | (have hf : mP I t r s = false := by unfold mP; first | simp [h53] | simp [h42]
                 exact ih2 (s + 1) M (by omega) hM hma (by rw [cnt_f hf]; exact h1) (fun x hx hpx => h2 x (by rcases Nat.lt_or_ge x s with q | q; exact q; rw [show x = s by omega, hf] at hpx; cases hpx) hpx))
              | (have hf : mP I t r s = true := by unfold mP; simp [h42, h53]
                 refine ih2 (s + 1) _ (by omega) (fun b i q1 q2 => by rw [sto_n _ _ _ q2, sto_n _ _ _ q1]; exact hM b i q1 q2) (fun i hi => ?_) ?_ (fun x hx hpx => ?_)
                 · obtain ⟨g1, g2⟩ := hma i hi
                   refine ⟨?_, fun x q1 q2 => ?_⟩
                   · rw [sto_kn _ _ _ _ (by omega), sto_n _ _ _ (by decide)]; exact g1
                   · obtain ⟨m', hm', hb'⟩ := hbe i (by omega)
                     have := mP_cnt hp10 hb' hm' (show x ≤ 1024 by omega)
                     rw [sto_n _ _ _ (by decide), sto_kn _ _ _ _ (by omega)]; exact g2 x q1 q2
                 · rw [sto_ss, cnt_t hf]
                 · rw [sto_n _ _ _ (by decide), sto_at]
                   by_cases e : x = s
                   · subst e; simp
                   · have hlt := cnt_mono (mP I t r) (show x + 1 ≤ s by omega)
                     rw [cnt_t hpx] at hlt
                     rw [if_neg (by omega)]
                     exact h2 x (by omega) hpx)
          · refine x_aloadr_n C dX3_findSets_45 46 rfl rfl ?_
            refine x_iload_n C dX3_findSets_46 47 rfl rfl ?_
            refine x_iload_n C dX3_findSets_47 48 rfl rfl ?_
            refine x_iload C dX3_findSets_48 50 rfl rfl ?_
            refine x_callV C lk_X3_219 dX3_findSets_50 53 rfl [_, _, _] [] rfl rfl hS.1 (Nat.le_of_ble_eq_true rfl) (by decide) (Nat.le_refl _) (Nat.le_refl _) (kX3_mayBe hS (hM.tok hI) ht (by omega) (by omega)) ?_
            rintro _ _ _ _ ⟨rfl, rfl, rfl, rfl⟩
            rw [hM.mbB, show pn M = pn I from congrArg nt (hM 473 1 (by decide) (by decide))]
            refine x_ifneZ C dX3_findSets_53 56 59 rfl (by decide) (fun h53 => ?_) (fun h53 => ?_)
            · refine x_aloadr_n C dX3_findSets_59 60 rfl rfl ?_
              refine x_getr C fl_X3_90 (Or.inr ⟨_, rfl⟩) dX3_findSets_60 63 rfl hS.1 (twR_may hS) ?_
              refine x_bip (j := 64) C dX3_findSets_63 65 rfl (by decide) ?_
              refine x_iload_n C dX3_findSets_65 66 rfl rfl ?_
              refine x_imul C dX3_findSets_66 67 rfl (pk_mul _ _) ?_
              refine x_aloadr_n C dX3_findSets_67 68 rfl rfl ?_
              refine x_getr C fl_X3_93 (Or.inr ⟨_, rfl⟩) dX3_findSets_68 71 rfl hS.1 (twR_mayMany hS) ?_
              refine x_iload_n C dX3_findSets_71 72 rfl rfl ?_
              refine x_iald C dX3_findSets_72 73 rfl (twA_mayMany hS) (twN_mayMany hS) rfl (by omega) (by decide) h1 ?_
              refine x_iadd C dX3_findSets_73 74 rfl (nI_add _ _) ?_
              refine x_iload C dX3_findSets_74 76 rfl rfl ?_
              refine x_iast C dX3_findSets_76 77 rfl (twA_may hS) (twN_may hS) rfl (by omega) (by decide) ?_
              refine x_aloadr_n C dX3_findSets_77 78 rfl rfl ?_
              refine x_getr C fl_X3_93 (Or.inr ⟨_, rfl⟩) dX3_findSets_78 81 rfl hS.1 (twR_mayMany hS) ?_
              refine x_iload_n C dX3_findSets_81 82 rfl rfl ?_
              refine x_dup2 C dX3_findSets_82 83 rfl ⟨rfl, rfl⟩ ?_
              refine x_iald C dX3_findSets_83 84 rfl (twA_mayMany hS) (twN_mayMany hS) rfl (by omega) (by decide) (show sto M 498 (64 * r + cnt (mP I t r) s) (nI s) 499 r = nI (cnt (mP I t r) s) from h1) ?_
              refine x_ic (j := 1) C dX3_findSets_84 85 rfl ?_
              refine x_iadd C dX3_findSets_85 86 rfl (nI_add _ _) ?_
              refine x_iast C dX3_findSets_86 87 rfl (twA_mayMany hS) (twN_mayMany hS) rfl (by omega) (by decide) ?_
              refine x_iinc C dX3_findSets_87 90 rfl [_, _, _, _, _] (nI_inc _) (by decide) rfl rfl rfl ?_
              refine x_goto C dX3_findSets_90 28 (by decide) ?_
              first
                | (have hf : mP I t r s = false := by unfold mP; first | simp [h53] | simp [h42]
                   exact ih2 (s + 1) M (by omega) hM hma (by rw [cnt_f hf]; exact h1) (fun x hx hpx => h2 x (by rcases Nat.lt_or_ge x s with q | q; exact q; rw [show x = s by omega, hf] at hpx; cases hpx) hpx))
                | (have hf : mP I t r s = true := by unfold mP; simp [h42, h53]
                   refine ih2 (s + 1) _ (by omega) (fun b i q1 q2 => by rw [sto_n _ _ _ q2, sto_n _ _ _ q1]; exact hM b i q1 q2) (fun i hi => ?_) ?_ (fun x hx hpx => ?_)
                   · obtain ⟨g1, g2⟩ := hma i hi
                     refine ⟨?_, fun x q1 q2 => ?_⟩
                     · rw [sto_kn _ _ _ _ (by omega), sto_n _ _ _ (by decide)]; exact g1
                     · obtain ⟨m', hm', hb'⟩ := hbe i (by omega)
                       have := mP_cnt hp10 hb' hm' (show x ≤ 1024 by omega)
                       rw [sto_n _ _ _ (by decide), sto_kn _ _ _ _ (by omega)]; exact g2 x q1 q2
                   · rw [sto_ss, cnt_t hf]
                   · rw [sto_n _ _ _ (by decide), sto_at]
                     by_cases e : x = s
                     · subst e; simp
                     · have hlt := cnt_mono (mP I t r) (show x + 1 ≤ s by omega)
                       rw [cnt_t hpx] at hlt
                       rw [if_neg (by omega)]
                       exact h2 x (by omega) hpx)
            · refine x_goto C dX3_findSets_56 87 (by decide) ?_
              refine x_iinc C dX3_findSets_87 90 rfl [_, _, _, _, _] (nI_inc _) (by decide) rfl rfl rfl ?_
              refine x_goto C dX3_findSets_90 28 (by decide) ?_
              first
                | (have hf : mP I t r s = false := by unfold mP; first | simp [h53] | simp [h42]
                   exact ih2 (s + 1) M (by omega) hM hma (by rw [cnt_f hf]; exact h1) (fun x hx hpx => h2 x (by rcases Nat.lt_or_ge x s with q | q; exact q; rw [show x = s by omega, hf] at hpx; cases hpx) hpx))
                | (have hf : mP I t r s = true := by unfold mP; simp [h42, h53]
                   refine ih2 (s + 1) _ (by omega) (fun b i q1 q2 => by rw [sto_n _ _ _ q2, sto_n _ _ _ q1]; exact hM b i q1 q2) (fun i hi => ?_) ?_ (fun x hx hpx => ?_)
                   · obtain ⟨g1, g2⟩ := hma i hi
                     refine ⟨?_, fun x q1 q2 => ?_⟩
                     · rw [sto_kn _ _ _ _ (by omega), sto_n _ _ _ (by decide)]; exact g1
                     · obtain ⟨m', hm', hb'⟩ := hbe i (by omega)
                       have := mP_cnt hp10 hb' hm' (show x ≤ 1024 by omega)
                       rw [sto_n _ _ _ (by decide), sto_kn _ _ _ _ (by omega)]; exact g2 x q1 q2
                   · rw [sto_ss, cnt_t hf]
                   · rw [sto_n _ _ _ (by decide), sto_at]
                     by_cases e : x = s
                     · subst e; simp
                     · have hlt := cnt_mono (mP I t r) (show x + 1 ≤ s by omega)
                       rw [cnt_t hpx] at hlt
                       rw [if_neg (by omega)]
                       exact h2 x (by omega) hpx)
      have r5 : M 485 t = nI (rn I t) := (congrFun (hM.row (b := 485) (by decide) (by decide)) t).trans (tk_r hI ht)
      refine x_iload_n C dX3_findSets_8 9 rfl rfl ?_
      refine x_aloadr_n C dX3_findSets_9 10 rfl rfl ?_
      refine x_getr C fl_X3_51 (Or.inr ⟨_, rfl⟩) dX3_findSets_10 13 rfl hS.1 (twR_rooms hS) ?_
      refine x_iload_n C dX3_findSets_13 14 rfl rfl ?_
      refine x_iald C dX3_findSets_14 15 rfl (twA_rooms hS) (twN_rooms hS) rfl (by omega) (by decide) r5 ?_
      refine x_icmpgeN C dX3_findSets_15 18 99 rfl (by decide) (by omega) (by omega) (fun h15 => absurd h15 (by omega)) (fun _ => ?_)
      refine x_aloadr_n C dX3_findSets_18 19 rfl rfl ?_
      refine x_getr C fl_X3_93 (Or.inr ⟨_, rfl⟩) dX3_findSets_19 22 rfl hS.1 (twR_mayMany hS) ?_
      refine x_iload_n C dX3_findSets_22 23 rfl rfl ?_
      refine x_ic (j := 0) C dX3_findSets_23 24 rfl ?_
      refine x_iast C dX3_findSets_24 25 rfl (twA_mayMany hS) (twN_mayMany hS) rfl (by omega) (by decide) ?_
      refine x_ic (j := 0) C dX3_findSets_25 26 rfl ?_
      refine x_istore C dX3_findSets_26 28 rfl [_, _, _, _, _] (by decide) rfl rfl ?_
      refine hX 1024 0 _ rfl (fun b i q1 q2 => by rw [sto_n _ _ _ q2]; exact hM b i q1 q2) (fun i hi => ?_) (sto_ss _ _ _ _) (fun x hx => by omega)
      obtain ⟨g1, g2⟩ := hma i hi
      exact ⟨by rw [sto_kn _ _ _ _ (by omega)]; exact g1, fun x q1 q2 => by rw [sto_n _ _ _ (by decide)]; exact g2 x q1 q2⟩
  refine x_aloadr_n C dX3_findSets_0 1 rfl rfl ?_
  refine x_iload_n C dX3_findSets_1 2 rfl rfl ?_
  refine x_callV C lk_X3_215 dX3_findSets_2 5 rfl [_] [] rfl rfl hS.1 (Nat.le_of_ble_eq_true rfl) (by decide) (Nat.le_refl _) (Nat.le_refl _) (kX3_there hS (tk_p hI) hp10) ?_
  rintro _ _ _ _ ⟨rfl, rfl, rfl, rfl⟩
  refine x_istore_n C dX3_findSets_5 6 rfl [_, _, _, _, _] (by decide) rfl rfl ?_
  refine x_ic (j := 0) C dX3_findSets_6 7 rfl ?_
  refine x_istore_n C dX3_findSets_7 8 rfl [_, _, _, _, _] (by decide) rfl rfl ?_
  exact hR (rn I t) 0 I (Nat.zero_add _) (fun _ _ _ _ => rfl) (fun i hi => by omega)
end Tw19

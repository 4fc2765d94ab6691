/-! the twin: tokens -/
/-- the memory while a text is read: at, place, token, deep, fault, faultAt -/
def tmI (I : Mi) (at_ pl tk dp fa fp : Int32) : Mi := fun b i => if b = 473 then (if i = 47 then at_ else if i = 48 then pl else if i = 49 then tk else if i = 50 then dp else if i = 51 then fa else if i = 52 then fp else I b i) else I b i
def tmJ (J : Ml) (v : Int64) : Ml := fun b i => if b = 473 then (if i = 53 then v else J b i) else J b i
section
variable (I : Mi) (J : Ml) (a p k d f g x : Int32) (v u : Int64)
theorem tr47 : tmI I a p k d f g 473 47 = a := rfl
theorem tr48 : tmI I a p k d f g 473 48 = p := rfl
theorem tr49 : tmI I a p k d f g 473 49 = k := rfl
theorem tr50 : tmI I a p k d f g 473 50 = d := rfl
theorem tr51 : tmI I a p k d f g 473 51 = f := rfl
theorem tr52 : tmI I a p k d f g 473 52 = g := rfl
theorem trJ : tmJ J v 473 53 = v := rfl
theorem trn {b : Nat} (h : b ≠ 473) : tmI I a p k d f g b = I b := by funext i; simp [tmI, h]
theorem trs {i : Nat} (h : ¬ (47 ≤ i ∧ i ≤ 52)) : tmI I a p k d f g 473 i = I 473 i := by
  unfold tmI
  rw [if_pos rfl, if_neg (by omega), if_neg (by omega), if_neg (by omega), if_neg (by omega), if_neg (by omega), if_neg (by omega)]
theorem tw47 : sto (tmI I a p k d f g) 473 47 x = tmI I x p k d f g := by
  funext b i; rw [sto_at]; unfold tmI; by_cases hb : b = 473 <;> by_cases hi : i = 47 <;> simp [hb, hi]
theorem tw48 : sto (tmI I a p k d f g) 473 48 x = tmI I a x k d f g := by
  funext b i; rw [sto_at]; unfold tmI; by_cases hb : b = 473 <;> by_cases hi : i = 48 <;> simp [hb, hi]
theorem tw49 : sto (tmI I a p k d f g) 473 49 x = tmI I a p x d f g := by
  funext b i; rw [sto_at]; unfold tmI; by_cases hb : b = 473 <;> by_cases hi : i = 49 <;> simp [hb, hi]
theorem tw50 : sto (tmI I a p k d f g) 473 50 x = tmI I a p k x f g := by
  funext b i; rw [sto_at]; unfold tmI; by_cases hb : b = 473 <;> by_cases hi : i = 50 <;> simp [hb, hi]
theorem tw51 : sto (tmI I a p k d f g) 473 51 x = tmI I a p k d x g := by
  funext b i; rw [sto_at]; unfold tmI; by_cases hb : b = 473 <;> by_cases hi : i = 51 <;> simp [hb, hi]
theorem tw52 : sto (tmI I a p k d f g) 473 52 x = tmI I a p k d f x := by
  funext b i; rw [sto_at]; unfold tmI; by_cases hb : b = 473 <;> by_cases hi : i = 52 <;> simp [hb, hi]
theorem twJ : sto (tmJ J v) 473 53 u = tmJ J u := by
  funext b i; rw [sto_at]; unfold tmJ; by_cases hb : b = 473 <;> by_cases hi : i = 53 <;> simp [hb, hi]
theorem tm_in {i : Nat} (h : ¬ (47 ≤ i ∧ i ≤ 52)) : sto (tmI I a p k d f g) 473 i x = tmI (sto I 473 i x) a p k d f g := by
  funext b j; rw [sto_at]; unfold tmI; rw [sto_at]
  by_cases hb : b = 473
  · by_cases hj : j = i
    · subst hj; subst hb
      rw [if_pos ⟨rfl, rfl⟩, if_pos rfl, if_neg (by omega), if_neg (by omega), if_neg (by omega), if_neg (by omega), if_neg (by omega), if_neg (by omega), if_pos ⟨rfl, rfl⟩]
    · simp only [hj, and_false, if_false]
  · simp only [hb, false_and, if_false]
theorem tm_self : tmI I (I 473 47) (I 473 48) (I 473 49) (I 473 50) (I 473 51) (I 473 52) = I := by
  funext b i; unfold tmI
  split
  · rename_i h; subst h
    repeat' split
    all_goals (first | rfl | (rename_i h; rw [h]) | skip)
    all_goals simp_all
  · rfl
theorem tmJ_self : tmJ J (J 473 53) = J := by
  funext b i; unfold tmJ
  split
  · rename_i h; subst h
    split
    · rename_i h; rw [h]
    · rfl
  · rfl
end
def blB (tx : Nat → Int32) (n q : Nat) : Bool := decide (q < n) && (decide (tx q = nI 32) || decide (tx q = nI 10))
def smB (tx : Nat → Int32) (n q : Nat) : Bool := decide (q < n) && !decide (tx q < nI 97) && !decide (nI 122 < tx q)
def dgB (tx : Nat → Int32) (n q : Nat) : Bool := decide (q < n) && !decide (tx q < nI 48) && !decide (nI 57 < tx q)
def sgB (x : Int64) : Bool := decide (x = 59) || decide (x = 40) || decide (x = 41) || decide (x = 60) || decide (x = 61) || decide (x = 43) || decide (x = 45)
def runE (P : Nat → Bool) : Nat → Nat → Nat
  | 0, q => q
  | f + 1, q => if P q then runE P f (q + 1) else q
theorem runE_le (P : Nat → Bool) : ∀ (f q : Nat), q ≤ runE P f q ∧ runE P f q ≤ q + f
  | 0, q => ⟨Nat.le_refl _, Nat.le_refl _⟩
  | f + 1, q => by
    unfold runE
    have := runE_le P f (q + 1)
    split <;> omega
theorem runE_no {P : Nat → Bool} {f q : Nat} (h : P q = false) : runE P f q = q := by
  cases f with
  | zero => rfl
  | succ f => unfold runE; rw [h]; rfl
theorem runE_yes {P : Nat → Bool} {f q : Nat} (h : P q = true) : runE P (f + 1) q = runE P f (q + 1) := by
  rw [runE, h]; rfl
theorem runE_end {P : Nat → Bool} {n : Nat} (hn : P n = false) : ∀ (f q : Nat), q + f = n → P (runE P f q) = false
  | 0, q, h => by have : q = n := h; subst this; exact hn
  | f + 1, q, h => by
    unfold runE
    split
    · exact runE_end hn f (q + 1) (by omega)
    · simp_all
theorem runE_in {P : Nat → Bool} : ∀ (f q i : Nat), q ≤ i → i < runE P f q → P i = true
  | 0, q, i, h1, h2 => by simp [runE] at h2; omega
  | f + 1, q, i, h1, h2 => by
    unfold runE at h2
    split at h2
    · rename_i hP
      by_cases e : i = q
      · subst e; exact hP
      · exact runE_in f (q + 1) i (by omega) h2
    · omega
def wvF (tx : Nat → Int32) (p : Nat) : Nat → Int64
  | 0 => 0
  | k + 1 => if k < 7 then 27 * wvF tx p k + (tx (p + k)).toInt64 - 96 else 0
def dvF (tx : Nat → Int32) (p : Nat) : Nat → Int64
  | 0 => 0
  | k + 1 => if k < 4 then 10 * dvF tx p k + (tx (p + k)).toInt64 - 48 else 0
/-- a token: where it ends, where it begins, its kind, its value -/
abbrev Tk : Type := Nat × Nat × Int32 × Int64
def nxP (tx : Nat → Int32) (n a : Nat) : Nat := runE (blB tx n) (n - a) a
def nx (tx : Nat → Int32) (n a : Nat) : Tk :=
  if nxP tx n a = n then (n, n, nI 0, 0)
  else if smB tx n (nxP tx n a) then (runE (smB tx n) (n - nxP tx n a) (nxP tx n a), nxP tx n a, nI 1, wvF tx (nxP tx n a) (runE (smB tx n) (n - nxP tx n a) (nxP tx n a) - nxP tx n a))
  else if dgB tx n (nxP tx n a) then (runE (dgB tx n) (n - nxP tx n a) (nxP tx n a), nxP tx n a, if 4 < runE (dgB tx n) (n - nxP tx n a) (nxP tx n a) - nxP tx n a then nI 4 else nI 2, dvF tx (nxP tx n a) (runE (dgB tx n) (n - nxP tx n a) (nxP tx n a) - nxP tx n a))
  else (nxP tx n a + 1, nxP tx n a, if sgB (tx (nxP tx n a)).toInt64 then nI 3 else nI 4, (tx (nxP tx n a)).toInt64)
theorem nxP_le (tx : Nat → Int32) {n a : Nat} (ha : a ≤ n) : a ≤ nxP tx n a ∧ nxP tx n a ≤ n := by
  unfold nxP
  have := runE_le (blB tx n) (n - a) a
  omega
theorem nx_le (tx : Nat → Int32) {n a : Nat} (ha : a ≤ n) : a ≤ (nx tx n a).1 ∧ (nx tx n a).1 ≤ n ∧ (nx tx n a).2.1 ≤ n ∧ ((nx tx n a).2.2.1 = nI 0 ∨ a < (nx tx n a).1) := by
  have h1 := nxP_le tx ha
  unfold nx
  split
  · exact ⟨ha, Nat.le_refl _, Nat.le_refl _, Or.inl rfl⟩
  · split
    · rename_i h2 h3
      have e : n - nxP tx n a = (n - nxP tx n a - 1) + 1 := by omega
      have h4 := runE_le (smB tx n) (n - nxP tx n a - 1) (nxP tx n a + 1)
      rw [e, runE_yes h3]
      show a ≤ runE _ _ _ ∧ runE _ _ _ ≤ n ∧ nxP tx n a ≤ n ∧ (_ ∨ a < runE _ _ _)
      omega
    · split
      · rename_i h2 _ h3
        have e : n - nxP tx n a = (n - nxP tx n a - 1) + 1 := by omega
        have h4 := runE_le (dgB tx n) (n - nxP tx n a - 1) (nxP tx n a + 1)
        rw [e, runE_yes h3]
        show a ≤ runE _ _ _ ∧ runE _ _ _ ≤ n ∧ nxP tx n a ≤ n ∧ (_ ∨ a < runE _ _ _)
        omega
      · show a ≤ nxP tx n a + 1 ∧ nxP tx n a + 1 ≤ n ∧ nxP tx n a ≤ n ∧ (_ ∨ a < nxP tx n a + 1)
        omega
abbrev Qt (I : Mi) (J : Ml) (S : Sh) (c : Tk) (dp fa fp : Int32) : Option Value → Sh → Mi → Ml → Prop := fun r S' I' J' => r = none ∧ S = S' ∧ tmI I (nI c.1) (nI c.2.1) c.2.2.1 dp fa fp = I' ∧ tmJ J c.2.2.2 = J'
theorem Qt_of {I : Mi} {J : Ml} {S : Sh} {c : Tk} {dp fa fp : Int32} {a p : Nat} {k : Int32} {v : Int64} (h : c = (a, p, k, v)) : Qt I J S c dp fa fp none S (tmI I (nI a) (nI p) k dp fa fp) (tmJ J v) := by
  subst h
  exact ⟨rfl, rfl, rfl, rfl⟩
section Tw7
variable {w : Wd} {l : Launch} {S : Sh} {I : Mi} {J : Ml} {a n : Nat} {pl tk dp fa fp : Int32} {v : Int64}
theorem kX3_isSmall (hS : twS S) (hz : I 473 46 = nI n) (hn : n ≤ 400) (ha : a ≤ n) : Ct w l yX3_isSmall cX3_isSmall 1 (some .boolean) 1 0 0 [.ref 473] S (tmI I (nI a) pl tk dp fa fp) J (Qe (some (.int (bz (smB (I 507) n a)))) S (tmI I (nI a) pl tk dp fa fp) J) := by
  refine Ct.of [some _] rfl (Nat.le_of_ble_eq_true rfl) (by decide) ?_
  intro κ hκ C
  subst hκ
  refine x_aloadr_n C dX3_isSmall_0 1 rfl rfl ?_
  refine x_geti C fl_X3_249 (Or.inl rfl) dX3_isSmall_1 4 rfl hS.1 (tr47 _ _ _ _ _ _ _) ?_
  refine x_aloadr_n C dX3_isSmall_4 5 rfl rfl ?_
  refine x_geti C fl_X3_252 (Or.inl rfl) dX3_isSmall_5 8 rfl hS.1 ((trs _ _ _ _ _ _ _ (by omega)).trans hz) ?_
  refine x_icmpgeN C dX3_isSmall_8 11 43 rfl (by decide) (by omega) (by omega) (fun h8 => ?_) (fun h8 => ?_)
  · refine x_ic (j := 0) C dX3_isSmall_43 44 rfl ?_
    exact x_zret C dX3_isSmall_44 (Nat.le_refl _) (Nat.le_refl _) rfl (Qz_of (by simp [smB, bzt, bzf, h8]))
  · refine x_aloadr_n C dX3_isSmall_11 12 rfl rfl ?_
    refine x_getr C fl_X3_121 (Or.inr ⟨_, rfl⟩) dX3_isSmall_12 15 rfl hS.1 (twR_text hS) ?_
    refine x_aloadr_n C dX3_isSmall_15 16 rfl rfl ?_
    refine x_geti C fl_X3_249 (Or.inl rfl) dX3_isSmall_16 19 rfl hS.1 (tr47 _ _ _ _ _ _ _) ?_
    refine x_bald C dX3_isSmall_19 20 rfl (twA_text hS) (twN_text hS) rfl (by omega) (by decide) (congrFun (trn I _ _ _ _ _ _ (by decide)) _) ?_
    refine x_bip (j := 97) C dX3_isSmall_20 22 rfl (by decide) ?_
    refine x_icmplt C dX3_isSmall_22 25 43 rfl (by decide) (fun h22 => ?_) (fun h22 => ?_)
    · refine x_ic (j := 0) C dX3_isSmall_43 44 rfl ?_
      exact x_zret C dX3_isSmall_44 (Nat.le_refl _) (Nat.le_refl _) rfl (Qz_of (by simp [smB, bzt, bzf, h8, h22]))
    · refine x_aloadr_n C dX3_isSmall_25 26 rfl rfl ?_
      refine x_getr C fl_X3_121 (Or.inr ⟨_, rfl⟩) dX3_isSmall_26 29 rfl hS.1 (twR_text hS) ?_
      refine x_aloadr_n C dX3_isSmall_29 30 rfl rfl ?_
      refine x_geti C fl_X3_249 (Or.inl rfl) dX3_isSmall_30 33 rfl hS.1 (tr47 _ _ _ _ _ _ _) ?_
      refine x_bald C dX3_isSmall_33 34 rfl (twA_text hS) (twN_text hS) rfl (by omega) (by decide) (congrFun (trn I _ _ _ _ _ _ (by decide)) _) ?_
      refine x_bip (j := 122) C dX3_isSmall_34 36 rfl (by decide) ?_
      refine x_icmpgt C dX3_isSmall_36 39 43 rfl (by decide) (fun h36 => ?_) (fun h36 => ?_)
      · refine x_ic (j := 0) C dX3_isSmall_43 44 rfl ?_
        exact x_zret C dX3_isSmall_44 (Nat.le_refl _) (Nat.le_refl _) rfl (Qz_of (by simp [smB, bzt, bzf, h8, h22, h36]))
      · refine x_ic (j := 1) C dX3_isSmall_39 40 rfl ?_
        refine x_goto C dX3_isSmall_40 44 (by decide) ?_
        exact x_zret C dX3_isSmall_44 (Nat.le_refl _) (Nat.le_refl _) rfl (Qz_of (by simp [smB, bzt, bzf, h8, h22, h36]))
theorem kX3_isDigit (hS : twS S) (hz : I 473 46 = nI n) (hn : n ≤ 400) (ha : a ≤ n) : Ct w l yX3_isDigit cX3_isDigit 1 (some .boolean) 1 0 0 [.ref 473] S (tmI I (nI a) pl tk dp fa fp) J (Qe (some (.int (bz (dgB (I 507) n a)))) S (tmI I (nI a) pl tk dp fa fp) J) := by
  refine Ct.of [some _] rfl (Nat.le_of_ble_eq_true rfl) (by decide) ?_
  intro κ hκ C
  subst hκ
  refine x_aloadr_n C dX3_isDigit_0 1 rfl rfl ?_
  refine x_geti C fl_X3_249 (Or.inl rfl) dX3_isDigit_1 4 rfl hS.1 (tr47 _ _ _ _ _ _ _) ?_
  refine x_aloadr_n C dX3_isDigit_4 5 rfl rfl ?_
  refine x_geti C fl_X3_252 (Or.inl rfl) dX3_isDigit_5 8 rfl hS.1 ((trs _ _ _ _ _ _ _ (by omega)).trans hz) ?_
  refine x_icmpgeN C dX3_isDigit_8 11 43 rfl (by decide) (by omega) (by omega) (fun h8 => ?_) (fun h8 => ?_)
  · refine x_ic (j := 0) C dX3_isDigit_43 44 rfl ?_
    exact x_zret C dX3_isDigit_44 (Nat.le_refl _) (Nat.le_refl _) rfl (Qz_of (by simp [dgB, bzt, bzf, h8]))
  · refine x_aloadr_n C dX3_isDigit_11 12 rfl rfl ?_
    refine x_getr C fl_X3_121 (Or.inr ⟨_, rfl⟩) dX3_isDigit_12 15 rfl hS.1 (twR_text hS) ?_
    refine x_aloadr_n C dX3_isDigit_15 16 rfl rfl ?_
    refine x_geti C fl_X3_249 (Or.inl rfl) dX3_isDigit_16 19 rfl hS.1 (tr47 _ _ _ _ _ _ _) ?_
    refine x_bald C dX3_isDigit_19 20 rfl (twA_text hS) (twN_text hS) rfl (by omega) (by decide) (congrFun (trn I _ _ _ _ _ _ (by decide)) _) ?_
    refine x_bip (j := 48) C dX3_isDigit_20 22 rfl (by decide) ?_
    refine x_icmplt C dX3_isDigit_22 25 43 rfl (by decide) (fun h22 => ?_) (fun h22 => ?_)
    · refine x_ic (j := 0) C dX3_isDigit_43 44 rfl ?_
      exact x_zret C dX3_isDigit_44 (Nat.le_refl _) (Nat.le_refl _) rfl (Qz_of (by simp [dgB, bzt, bzf, h8, h22]))
    · refine x_aloadr_n C dX3_isDigit_25 26 rfl rfl ?_
      refine x_getr C fl_X3_121 (Or.inr ⟨_, rfl⟩) dX3_isDigit_26 29 rfl hS.1 (twR_text hS) ?_
      refine x_aloadr_n C dX3_isDigit_29 30 rfl rfl ?_
      refine x_geti C fl_X3_249 (Or.inl rfl) dX3_isDigit_30 33 rfl hS.1 (tr47 _ _ _ _ _ _ _) ?_
      refine x_bald C dX3_isDigit_33 34 rfl (twA_text hS) (twN_text hS) rfl (by omega) (by decide) (congrFun (trn I _ _ _ _ _ _ (by decide)) _) ?_
      refine x_bip (j := 57) C dX3_isDigit_34 36 rfl (by decide) ?_
      refine x_icmpgt C dX3_isDigit_36 39 43 rfl (by decide) (fun h36 => ?_) (fun h36 => ?_)
      · refine x_ic (j := 0) C dX3_isDigit_43 44 rfl ?_
        exact x_zret C dX3_isDigit_44 (Nat.le_refl _) (Nat.le_refl _) rfl (Qz_of (by simp [dgB, bzt, bzf, h8, h22, h36]))
      · refine x_ic (j := 1) C dX3_isDigit_39 40 rfl ?_
        refine x_goto C dX3_isDigit_40 44 (by decide) ?_
        exact x_zret C dX3_isDigit_44 (Nat.le_refl _) (Nat.le_refl _) rfl (Qz_of (by simp [dgB, bzt, bzf, h8, h22, h36]))
theorem kX3_next (hS : twS S) (hz : I 473 46 = nI n) (hn : n ≤ 400) (ha : a ≤ n) : Ct w l yX3_next cX3_next 1 none 2 0 0 [.ref 473] S (tmI I (nI a) pl tk dp fa fp) (tmJ J v) (Qt I J S (nx (I 507) n a) dp fa fp) := by
  refine Ct.of [some _] rfl (Nat.le_of_ble_eq_true rfl) (by decide) ?_
  intro κ hκ C
  subst hκ
  have hp := nxP_le (I 507) ha
  have K52 : XX w κ (Zr w κ (Qt I J S (nx (I 507) n a) dp fa fp)) 0 0 52 [some (.ref 473)] [] S (tmI I (nI (nxP (I 507) n a)) pl tk dp fa fp) (tmJ J v) := by
    refine x_aloadr_n C dX3_next_52 53 rfl rfl ?_
    refine x_aloadr_n C dX3_next_53 54 rfl rfl ?_
    refine x_geti C fl_X3_249 (Or.inl rfl) dX3_next_54 57 rfl hS.1 (tr47 _ _ _ _ _ _ _) ?_
    refine x_puti C fl_X3_255 (Or.inl rfl) (Or.inl rfl) dX3_next_57 60 rfl hS.1 ?_
    refine x_eqI (tw48 _ _ _ _ _ _ _ _) ?_
    refine x_aloadr_n C dX3_next_60 61 rfl rfl ?_
    refine x_lc (v := 0) C dX3_next_61 62 rfl rfl ?_
    refine x_putl C fl_X3_258 (Or.inl rfl) dX3_next_62 65 rfl hS.1 ?_
    refine x_eqJ (twJ _ _ _) ?_
    refine x_aloadr_n C dX3_next_65 66 rfl rfl ?_
    refine x_geti C fl_X3_249 (Or.inl rfl) dX3_next_66 69 rfl hS.1 (tr47 _ _ _ _ _ _ _) ?_
    refine x_aloadr_n C dX3_next_69 70 rfl rfl ?_
    refine x_geti C fl_X3_252 (Or.inl rfl) dX3_next_70 73 rfl hS.1 ((trs _ _ _ _ _ _ _ (by omega)).trans hz) ?_
    refine x_icmpneN C dX3_next_73 76 84 rfl (by decide) (by omega) (by omega) (fun h73 => ?_) (fun h73 => ?_)
    · refine x_aloadr_n C dX3_next_84 85 rfl rfl ?_
      refine x_callV C lk_X3_265 dX3_next_85 88 rfl [] [] rfl rfl hS.1 (Nat.le_of_ble_eq_true rfl) (by decide) (Nat.le_refl _) (Nat.le_refl _) (kX3_isSmall hS hz hn (by omega)) ?_
      rintro _ _ _ _ ⟨rfl, rfl, rfl, rfl⟩
      refine x_ifeqZ C dX3_next_88 91 161 rfl (by decide) (fun h88 => ?_) (fun h88 => ?_)
      · refine x_aloadr_n C dX3_next_161 162 rfl rfl ?_
        refine x_callV C lk_X3_273 dX3_next_162 165 rfl [] [] rfl rfl hS.1 (Nat.le_of_ble_eq_true rfl) (by decide) (Nat.le_refl _) (Nat.le_refl _) (kX3_isDigit hS hz hn (by omega)) ?_
        rintro _ _ _ _ ⟨rfl, rfl, rfl, rfl⟩
        refine x_ifeqZ C dX3_next_165 168 257 rfl (by decide) (fun h165 => ?_) (fun h165 => ?_)
        · refine x_aloadr_n C dX3_next_257 258 rfl rfl ?_
          refine x_aloadr_n C dX3_next_258 259 rfl rfl ?_
          refine x_getr C fl_X3_121 (Or.inr ⟨_, rfl⟩) dX3_next_259 262 rfl hS.1 (twR_text hS) ?_
          refine x_aloadr_n C dX3_next_262 263 rfl rfl ?_
          refine x_geti C fl_X3_249 (Or.inl rfl) dX3_next_263 266 rfl hS.1 (tr47 _ _ _ _ _ _ _) ?_
          refine x_bald C dX3_next_266 267 rfl (twA_text hS) (twN_text hS) rfl (by omega) (by decide) (congrFun (trn I _ _ _ _ _ _ (by decide)) _) ?_
          refine x_i2l C dX3_next_267 268 rfl rfl ?_
          refine x_putl C fl_X3_258 (Or.inl rfl) dX3_next_268 271 rfl hS.1 ?_
          refine x_eqJ (twJ _ _ _) ?_
          refine x_aloadr_n C dX3_next_271 272 rfl rfl ?_
          refine x_aloadr_n C dX3_next_272 273 rfl rfl ?_
          refine x_getl C fl_X3_258 dX3_next_273 276 rfl hS.1 (trJ _ _) ?_
          refine x_ldc2 C dX3_next_276 279 rfl q1625 ?_
          refine x_lcmp C dX3_next_279 280 rfl ?_
          refine x_ifeqC C dX3_next_280 283 349 rfl (by decide) (fun h280 => ?_) (fun h280 => ?_)
          · refine x_ic (j := 3) C dX3_next_349 350 rfl ?_
            refine x_goto C dX3_next_350 354 (by decide) ?_
            refine x_puti C fl_X3_262 (Or.inl rfl) (Or.inl rfl) dX3_next_354 357 rfl hS.1 ?_
            refine x_eqI (tw49 _ _ _ _ _ _ _ _) ?_
            refine x_aloadr_n C dX3_next_357 358 rfl rfl ?_
            refine x_dup C dX3_next_358 359 rfl rfl ?_
            refine x_geti C fl_X3_249 (Or.inl rfl) dX3_next_359 362 rfl hS.1 (tr47 _ _ _ _ _ _ _) ?_
            refine x_ic (j := 1) C dX3_next_362 363 rfl ?_
            refine x_iadd C dX3_next_363 364 rfl (nI_add _ _) ?_
            refine x_puti C fl_X3_249 (Or.inl rfl) (Or.inl rfl) dX3_next_364 367 rfl hS.1 ?_
            refine x_eqI (tw47 _ _ _ _ _ _ _ _) ?_
            exact x_vret C dX3_next_367 (Nat.le_refl _) (Nat.le_refl _) (Qt_of (by rw [nx, if_neg h73, if_neg (by rw [h88]; decide), if_neg (by rw [h165]; decide)]; simp [sgB, h73, h88, h165, h280]))
          · refine x_aloadr_n C dX3_next_283 284 rfl rfl ?_
            refine x_getl C fl_X3_258 dX3_next_284 287 rfl hS.1 (trJ _ _) ?_
            refine x_ldc2 C dX3_next_287 290 rfl q1626 ?_
            refine x_lcmp C dX3_next_290 291 rfl ?_
            refine x_ifeqC C dX3_next_291 294 349 rfl (by decide) (fun h291 => ?_) (fun h291 => ?_)
            · refine x_ic (j := 3) C dX3_next_349 350 rfl ?_
              refine x_goto C dX3_next_350 354 (by decide) ?_
              refine x_puti C fl_X3_262 (Or.inl rfl) (Or.inl rfl) dX3_next_354 357 rfl hS.1 ?_
              refine x_eqI (tw49 _ _ _ _ _ _ _ _) ?_
              refine x_aloadr_n C dX3_next_357 358 rfl rfl ?_
              refine x_dup C dX3_next_358 359 rfl rfl ?_
              refine x_geti C fl_X3_249 (Or.inl rfl) dX3_next_359 362 rfl hS.1 (tr47 _ _ _ _ _ _ _) ?_
              refine x_ic (j := 1) C dX3_next_362 363 rfl ?_
              refine x_iadd C dX3_next_363 364 rfl (nI_add _ _) ?_
              refine x_puti C fl_X3_249 (Or.inl rfl) (Or.inl rfl) dX3_next_364 367 rfl hS.1 ?_
              refine x_eqI (tw47 _ _ _ _ _ _ _ _) ?_
              exact x_vret C dX3_next_367 (Nat.le_refl _) (Nat.le_refl _) (Qt_of (by rw [nx, if_neg h73, if_neg (by rw [h88]; decide), if_neg (by rw [h165]; decide)]; simp [sgB, h73, h88, h165, h280, h291]))
            · refine x_aloadr_n C dX3_next_294 295 rfl rfl ?_
              refine x_getl C fl_X3_258 dX3_next_295 298 rfl hS.1 (trJ _ _) ?_
              refine x_ldc2 C dX3_next_298 301 rfl q1627 ?_
              refine x_lcmp C dX3_next_301 302 rfl ?_
              refine x_ifeqC C dX3_next_302 305 349 rfl (by decide) (fun h302 => ?_) (fun h302 => ?_)
              · refine x_ic (j := 3) C dX3_next_349 350 rfl ?_
                refine x_goto C dX3_next_350 354 (by decide) ?_
                refine x_puti C fl_X3_262 (Or.inl rfl) (Or.inl rfl) dX3_next_354 357 rfl hS.1 ?_
                refine x_eqI (tw49 _ _ _ _ _ _ _ _) ?_
                refine x_aloadr_n C dX3_next_357 358 rfl rfl ?_
                refine x_dup C dX3_next_358 359 rfl rfl ?_
                refine x_geti C fl_X3_249 (Or.inl rfl) dX3_next_359 362 rfl hS.1 (tr47 _ _ _ _ _ _ _) ?_
                refine x_ic (j := 1) C dX3_next_362 363 rfl ?_
                refine x_iadd C dX3_next_363 364 rfl (nI_add _ _) ?_
                refine x_puti C fl_X3_249 (Or.inl rfl) (Or.inl rfl) dX3_next_364 367 rfl hS.1 ?_
                refine x_eqI (tw47 _ _ _ _ _ _ _ _) ?_
                exact x_vret C dX3_next_367 (Nat.le_refl _) (Nat.le_refl _) (Qt_of (by rw [nx, if_neg h73, if_neg (by rw [h88]; decide), if_neg (by rw [h165]; decide)]; simp [sgB, h73, h88, h165, h280, h291, h302]))
              · refine x_aloadr_n C dX3_next_305 306 rfl rfl ?_
                refine x_getl C fl_X3_258 dX3_next_306 309 rfl hS.1 (trJ _ _) ?_
                refine x_ldc2 C dX3_next_309 312 rfl q1628 ?_
                refine x_lcmp C dX3_next_312 313 rfl ?_
                refine x_ifeqC C dX3_next_313 316 349 rfl (by decide) (fun h313 => ?_) (fun h313 => ?_)
                · refine x_ic (j := 3) C dX3_next_349 350 rfl ?_
                  refine x_goto C dX3_next_350 354 (by decide) ?_
                  refine x_puti C fl_X3_262 (Or.inl rfl) (Or.inl rfl) dX3_next_354 357 rfl hS.1 ?_
                  refine x_eqI (tw49 _ _ _ _ _ _ _ _) ?_
                  refine x_aloadr_n C dX3_next_357 358 rfl rfl ?_
                  refine x_dup C dX3_next_358 359 rfl rfl ?_
                  refine x_geti C fl_X3_249 (Or.inl rfl) dX3_next_359 362 rfl hS.1 (tr47 _ _ _ _ _ _ _) ?_
                  refine x_ic (j := 1) C dX3_next_362 363 rfl ?_
                  refine x_iadd C dX3_next_363 364 rfl (nI_add _ _) ?_
                  refine x_puti C fl_X3_249 (Or.inl rfl) (Or.inl rfl) dX3_next_364 367 rfl hS.1 ?_
                  refine x_eqI (tw47 _ _ _ _ _ _ _ _) ?_
                  exact x_vret C dX3_next_367 (Nat.le_refl _) (Nat.le_refl _) (Qt_of (by rw [nx, if_neg h73, if_neg (by rw [h88]; decide), if_neg (by rw [h165]; decide)]; simp [sgB, h73, h88, h165, h280, h291, h302, h313]))
                · refine x_aloadr_n C dX3_next_316 317 rfl rfl ?_
                  refine x_getl C fl_X3_258 dX3_next_317 320 rfl hS.1 (trJ _ _) ?_
                  refine x_ldc2 C dX3_next_320 323 rfl q1629 ?_
                  refine x_lcmp C dX3_next_323 324 rfl ?_
                  refine x_ifeqC C dX3_next_324 327 349 rfl (by decide) (fun h324 => ?_) (fun h324 => ?_)
                  · refine x_ic (j := 3) C dX3_next_349 350 rfl ?_
                    refine x_goto C dX3_next_350 354 (by decide) ?_
                    refine x_puti C fl_X3_262 (Or.inl rfl) (Or.inl rfl) dX3_next_354 357 rfl hS.1 ?_
                    refine x_eqI (tw49 _ _ _ _ _ _ _ _) ?_
                    refine x_aloadr_n C dX3_next_357 358 rfl rfl ?_
                    refine x_dup C dX3_next_358 359 rfl rfl ?_
                    refine x_geti C fl_X3_249 (Or.inl rfl) dX3_next_359 362 rfl hS.1 (tr47 _ _ _ _ _ _ _) ?_
                    refine x_ic (j := 1) C dX3_next_362 363 rfl ?_
                    refine x_iadd C dX3_next_363 364 rfl (nI_add _ _) ?_
                    refine x_puti C fl_X3_249 (Or.inl rfl) (Or.inl rfl) dX3_next_364 367 rfl hS.1 ?_
                    refine x_eqI (tw47 _ _ _ _ _ _ _ _) ?_
                    exact x_vret C dX3_next_367 (Nat.le_refl _) (Nat.le_refl _) (Qt_of (by rw [nx, if_neg h73, if_neg (by rw [h88]; decide), if_neg (by rw [h165]; decide)]; simp [sgB, h73, h88, h165, h280, h291, h302, h313, h324]))
                  · refine x_aloadr_n C dX3_next_327 328 rfl rfl ?_
                    refine x_getl C fl_X3_258 dX3_next_328 331 rfl hS.1 (trJ _ _) ?_
                    refine x_ldc2 C dX3_next_331 334 rfl q1630 ?_
                    refine x_lcmp C dX3_next_334 335 rfl ?_
                    refine x_ifeqC C dX3_next_335 338 349 rfl (by decide) (fun h335 => ?_) (fun h335 => ?_)
                    · refine x_ic (j := 3) C dX3_next_349 350 rfl ?_
                      refine x_goto C dX3_next_350 354 (by decide) ?_
                      refine x_puti C fl_X3_262 (Or.inl rfl) (Or.inl rfl) dX3_next_354 357 rfl hS.1 ?_
                      refine x_eqI (tw49 _ _ _ _ _ _ _ _) ?_
                      refine x_aloadr_n C dX3_next_357 358 rfl rfl ?_
                      refine x_dup C dX3_next_358 359 rfl rfl ?_
                      refine x_geti C fl_X3_249 (Or.inl rfl) dX3_next_359 362 rfl hS.1 (tr47 _ _ _ _ _ _ _) ?_
                      refine x_ic (j := 1) C dX3_next_362 363 rfl ?_
                      refine x_iadd C dX3_next_363 364 rfl (nI_add _ _) ?_
                      refine x_puti C fl_X3_249 (Or.inl rfl) (Or.inl rfl) dX3_next_364 367 rfl hS.1 ?_
                      refine x_eqI (tw47 _ _ _ _ _ _ _ _) ?_
                      exact x_vret C dX3_next_367 (Nat.le_refl _) (Nat.le_refl _) (Qt_of (by rw [nx, if_neg h73, if_neg (by rw [h88]; decide), if_neg (by rw [h165]; decide)]; simp [sgB, h73, h88, h165, h280, h291, h302, h313, h324, h335]))
                    · refine x_aloadr_n C dX3_next_338 339 rfl rfl ?_
                      refine x_getl C fl_X3_258 dX3_next_339 342 rfl hS.1 (trJ _ _) ?_
                      refine x_ldc2 C dX3_next_342 345 rfl q1631 ?_
                      refine x_lcmp C dX3_next_345 346 rfl ?_
                      refine x_ifneC C dX3_next_346 349 353 rfl (by decide) (fun h346 => ?_) (fun h346 => ?_)
                      · refine x_ic (j := 4) C dX3_next_353 354 rfl ?_
                        refine x_puti C fl_X3_262 (Or.inl rfl) (Or.inl rfl) dX3_next_354 357 rfl hS.1 ?_
                        refine x_eqI (tw49 _ _ _ _ _ _ _ _) ?_
                        refine x_aloadr_n C dX3_next_357 358 rfl rfl ?_
                        refine x_dup C dX3_next_358 359 rfl rfl ?_
                        refine x_geti C fl_X3_249 (Or.inl rfl) dX3_next_359 362 rfl hS.1 (tr47 _ _ _ _ _ _ _) ?_
                        refine x_ic (j := 1) C dX3_next_362 363 rfl ?_
                        refine x_iadd C dX3_next_363 364 rfl (nI_add _ _) ?_
                        refine x_puti C fl_X3_249 (Or.inl rfl) (Or.inl rfl) dX3_next_364 367 rfl hS.1 ?_
                        refine x_eqI (tw47 _ _ _ _ _ _ _ _) ?_
                        exact x_vret C dX3_next_367 (Nat.le_refl _) (Nat.le_refl _) (Qt_of (by rw [nx, if_neg h73, if_neg (by rw [h88]; decide), if_neg (by rw [h165]; decide)]; simp [sgB, h73, h88, h165, h280, h291, h302, h313, h324, h335, h346]))
                      · refine x_ic (j := 3) C dX3_next_349 350 rfl ?_
                        refine x_goto C dX3_next_350 354 (by decide) ?_
                        refine x_puti C fl_X3_262 (Or.inl rfl) (Or.inl rfl) dX3_next_354 357 rfl hS.1 ?_
                        refine x_eqI (tw49 _ _ _ _ _ _ _ _) ?_
                        refine x_aloadr_n C dX3_next_357 358 rfl rfl ?_
                        refine x_dup C dX3_next_358 359 rfl rfl ?_
                        refine x_geti C fl_X3_249 (Or.inl rfl) dX3_next_359 362 rfl hS.1 (tr47 _ _ _ _ _ _ _) ?_
                        refine x_ic (j := 1) C dX3_next_362 363 rfl ?_
                        refine x_iadd C dX3_next_363 364 rfl (nI_add _ _) ?_
                        refine x_puti C fl_X3_249 (Or.inl rfl) (Or.inl rfl) dX3_next_364 367 rfl hS.1 ?_
                        refine x_eqI (tw47 _ _ _ _ _ _ _ _) ?_
                        exact x_vret C dX3_next_367 (Nat.le_refl _) (Nat.le_refl _) (Qt_of (by rw [nx, if_neg h73, if_neg (by rw [h88]; decide), if_neg (by rw [h165]; decide)]; simp [sgB, h73, h88, h165, h280, h291, h302, h313, h324, h335, h346]))
        · have hE := runE_le (dgB (I 507) n) (n - nxP (I 507) n a) (nxP (I 507) n a)
          generalize hp0 : nxP (I 507) n a = p at *
          generalize he0 : runE (dgB (I 507) n) (n - p) p = e at *
          have K232 : XX w κ (Zr w κ (Qt I J S (nx (I 507) n a) dp fa fp)) 0 0 232 [some (.ref 473)] [] S (tmI I (nI e) (nI p) tk dp fa fp) (tmJ J (dvF (I 507) p (e - p))) := by
            refine x_aloadr_n C dX3_next_232 233 rfl rfl ?_
            refine x_aloadr_n C dX3_next_233 234 rfl rfl ?_
            refine x_geti C fl_X3_249 (Or.inl rfl) dX3_next_234 237 rfl hS.1 (tr47 _ _ _ _ _ _ _) ?_
            refine x_aloadr_n C dX3_next_237 238 rfl rfl ?_
            refine x_geti C fl_X3_255 (Or.inl rfl) dX3_next_238 241 rfl hS.1 (tr48 _ _ _ _ _ _ _) ?_
            refine x_isub C dX3_next_241 242 rfl (pk_sub (by omega)) ?_
            refine x_ic (j := 4) C dX3_next_242 243 rfl ?_
            apply x_jNN (pj := 251) (fun kt kf => x_icmpleN C dX3_next_243 246 250 rfl (by decide) (by omega) (by omega) kt kf)
            case ht =>
              intro K
              refine x_ic (j := 2) C dX3_next_250 251 rfl ?_
              exact K
            case hf =>
              intro K
              refine x_ic (j := 4) C dX3_next_246 247 rfl ?_
              refine x_goto C dX3_next_247 251 (by decide) ?_
              exact K
            refine x_puti C fl_X3_262 (Or.inl rfl) (Or.inl rfl) dX3_next_251 254 rfl hS.1 ?_
            refine x_eqI (tw49 _ _ _ _ _ _ _ _) ?_
            refine x_goto C dX3_next_254 367 (by decide) ?_
            exact x_vret C dX3_next_367 (Nat.le_refl _) (Nat.le_refl _) (Qt_of (by rw [nx, hp0, if_neg h73, if_neg (by rw [h88]; decide), if_pos h165, he0]; split <;> simp_all))
          have hl : ∀ (j q : Nat), q + j = n → p ≤ q → runE (dgB (I 507) n) j q = e → XX w κ (Zr w κ (Qt I J S (nx (I 507) n a) dp fa fp)) 0 0 168 [some (.ref 473)] [] S (tmI I (nI q) (nI p) tk dp fa fp) (tmJ J (dvF (I 507) p (q - p))) := by
            intro j
            induction j with
            | zero =>
              intro q hq hpq he
              have hq : q = n := hq
              subst hq
              have he : q = e := he
              subst he
              refine x_aloadr_n C dX3_next_168 169 rfl rfl ?_
              refine x_callV C lk_X3_273 dX3_next_169 172 rfl [] [] rfl rfl hS.1 (Nat.le_of_ble_eq_true rfl) (by decide) (Nat.le_refl _) (Nat.le_refl _) (kX3_isDigit hS hz hn (by omega)) ?_
              rintro _ _ _ _ ⟨rfl, rfl, rfl, rfl⟩
              refine x_ifeqZ C dX3_next_172 175 232 rfl (by decide) (fun _ => ?_) (fun h172 => absurd h172 (by simp [dgB]))
              exact K232
            | succ j ih =>
              intro q hq hpq he
              refine x_aloadr_n C dX3_next_168 169 rfl rfl ?_
              refine x_callV C lk_X3_273 dX3_next_169 172 rfl [] [] rfl rfl hS.1 (Nat.le_of_ble_eq_true rfl) (by decide) (Nat.le_refl _) (Nat.le_refl _) (kX3_isDigit hS hz hn (by omega)) ?_
              rintro _ _ _ _ ⟨rfl, rfl, rfl, rfl⟩
              refine x_ifeqZ C dX3_next_172 175 232 rfl (by decide) (fun h172 => ?_) (fun h172 => ?_)
              · rw [runE_no h172] at he
                subst he
                exact K232
              · refine x_aloadr_n C dX3_next_175 176 rfl rfl ?_
                refine x_aloadr_n C dX3_next_176 177 rfl rfl ?_
                refine x_geti C fl_X3_249 (Or.inl rfl) dX3_next_177 180 rfl hS.1 (tr47 _ _ _ _ _ _ _) ?_
                refine x_aloadr_n C dX3_next_180 181 rfl rfl ?_
                refine x_geti C fl_X3_255 (Or.inl rfl) dX3_next_181 184 rfl hS.1 (tr48 _ _ _ _ _ _ _) ?_
                refine x_isub C dX3_next_184 185 rfl (pk_sub (by omega)) ?_
                refine x_ic (j := 4) C dX3_next_185 186 rfl ?_
                refine x_icmpgeN C dX3_next_186 189 215 rfl (by decide) (by omega) (by omega) (fun h186 => ?_) (fun h186 => ?_)
                · refine x_lc (v := 0) C dX3_next_215 216 rfl rfl ?_
                  refine x_putl C fl_X3_258 (Or.inl rfl) dX3_next_216 219 rfl hS.1 ?_
                  refine x_eqJ (twJ _ _ _) ?_
                  refine x_aloadr_n C dX3_next_219 220 rfl rfl ?_
                  refine x_dup C dX3_next_220 221 rfl rfl ?_
                  refine x_geti C fl_X3_249 (Or.inl rfl) dX3_next_221 224 rfl hS.1 (tr47 _ _ _ _ _ _ _) ?_
                  refine x_ic (j := 1) C dX3_next_224 225 rfl ?_
                  refine x_iadd C dX3_next_225 226 rfl (nI_add _ _) ?_
                  refine x_puti C fl_X3_249 (Or.inl rfl) (Or.inl rfl) dX3_next_226 229 rfl hS.1 ?_
                  refine x_eqI (tw47 _ _ _ _ _ _ _ _) ?_
                  refine x_goto C dX3_next_229 168 (by decide) ?_
                  refine x_eqJ ?_ (ih (q + 1) (by omega) (by omega) (by rw [← he, runE_yes h172]))
                  rw [show q + 1 - p = (q - p) + 1 by omega, dvF, show p + (q - p) = q by omega]
                  first | rw [if_pos h186] | rw [if_neg h186]
                · refine x_ldc2 C dX3_next_189 192 rfl q1623 ?_
                  refine x_aloadr_n C dX3_next_192 193 rfl rfl ?_
                  refine x_getl C fl_X3_258 dX3_next_193 196 rfl hS.1 (trJ _ _) ?_
                  refine x_lmul C dX3_next_196 197 rfl rfl ?_
                  refine x_aloadr_n C dX3_next_197 198 rfl rfl ?_
                  refine x_getr C fl_X3_121 (Or.inr ⟨_, rfl⟩) dX3_next_198 201 rfl hS.1 (twR_text hS) ?_
                  refine x_aloadr_n C dX3_next_201 202 rfl rfl ?_
                  refine x_geti C fl_X3_249 (Or.inl rfl) dX3_next_202 205 rfl hS.1 (tr47 _ _ _ _ _ _ _) ?_
                  refine x_bald C dX3_next_205 206 rfl (twA_text hS) (twN_text hS) rfl (by omega) (by decide) (congrFun (trn I _ _ _ _ _ _ (by decide)) _) ?_
                  refine x_i2l C dX3_next_206 207 rfl rfl ?_
                  refine x_ladd C dX3_next_207 208 rfl rfl ?_
                  refine x_ldc2 C dX3_next_208 211 rfl q1624 ?_
                  refine x_lsub C dX3_next_211 212 rfl rfl ?_
                  refine x_goto C dX3_next_212 216 (by decide) ?_
                  refine x_putl C fl_X3_258 (Or.inl rfl) dX3_next_216 219 rfl hS.1 ?_
                  refine x_eqJ (twJ _ _ _) ?_
                  refine x_aloadr_n C dX3_next_219 220 rfl rfl ?_
                  refine x_dup C dX3_next_220 221 rfl rfl ?_
                  refine x_geti C fl_X3_249 (Or.inl rfl) dX3_next_221 224 rfl hS.1 (tr47 _ _ _ _ _ _ _) ?_
                  refine x_ic (j := 1) C dX3_next_224 225 rfl ?_
                  refine x_iadd C dX3_next_225 226 rfl (nI_add _ _) ?_
                  refine x_puti C fl_X3_249 (Or.inl rfl) (Or.inl rfl) dX3_next_226 229 rfl hS.1 ?_
                  refine x_eqI (tw47 _ _ _ _ _ _ _ _) ?_
                  refine x_goto C dX3_next_229 168 (by decide) ?_
                  refine x_eqJ ?_ (ih (q + 1) (by omega) (by omega) (by rw [← he, runE_yes h172]))
                  rw [show q + 1 - p = (q - p) + 1 by omega, dvF, show p + (q - p) = q by omega]
                  first | rw [if_pos h186] | rw [if_neg h186]
          refine x_eqJ ?_ (hl (n - p) p (by omega) (Nat.le_refl _) he0)
          rw [Nat.sub_self]
          rfl
      · have hE := runE_le (smB (I 507) n) (n - nxP (I 507) n a) (nxP (I 507) n a)
        generalize hp0 : nxP (I 507) n a = p at *
        generalize he0 : runE (smB (I 507) n) (n - p) p = e at *
        refine x_aloadr_n C dX3_next_91 92 rfl rfl ?_
        refine x_ic (j := 1) C dX3_next_92 93 rfl ?_
        refine x_puti C fl_X3_262 (Or.inl rfl) (Or.inl rfl) dX3_next_93 96 rfl hS.1 ?_
        refine x_eqI (tw49 _ _ _ _ _ _ _ _) ?_
        have hl : ∀ (j q : Nat), q + j = n → p ≤ q → runE (smB (I 507) n) j q = e → XX w κ (Zr w κ (Qt I J S (nx (I 507) n a) dp fa fp)) 0 0 96 [some (.ref 473)] [] S (tmI I (nI q) (nI p) (nI 1) dp fa fp) (tmJ J (wvF (I 507) p (q - p))) := by
          intro j
          induction j with
          | zero =>
            intro q hq hpq he
            have hq : q = n := hq
            subst hq
            refine x_aloadr_n C dX3_next_96 97 rfl rfl ?_
            refine x_callV C lk_X3_265 dX3_next_97 100 rfl [] [] rfl rfl hS.1 (Nat.le_of_ble_eq_true rfl) (by decide) (Nat.le_refl _) (Nat.le_refl _) (kX3_isSmall hS hz hn (by omega)) ?_
            rintro _ _ _ _ ⟨rfl, rfl, rfl, rfl⟩
            refine x_ifeqZ C dX3_next_100 103 367 rfl (by decide) (fun _ => ?_) (fun h100 => absurd h100 (by simp [smB]))
            exact x_vret C dX3_next_367 (Nat.le_refl _) (Nat.le_refl _) (Qt_of (by rw [nx, hp0, if_neg h73, if_pos h88, he0, ← he]; rfl))
          | succ j ih =>
            intro q hq hpq he
            refine x_aloadr_n C dX3_next_96 97 rfl rfl ?_
            refine x_callV C lk_X3_265 dX3_next_97 100 rfl [] [] rfl rfl hS.1 (Nat.le_of_ble_eq_true rfl) (by decide) (Nat.le_refl _) (Nat.le_refl _) (kX3_isSmall hS hz hn (by omega)) ?_
            rintro _ _ _ _ ⟨rfl, rfl, rfl, rfl⟩
            refine x_ifeqZ C dX3_next_100 103 367 rfl (by decide) (fun h100 => ?_) (fun h100 => ?_)
            · exact x_vret C dX3_next_367 (Nat.le_refl _) (Nat.le_refl _) (Qt_of (by rw [nx, hp0, if_neg h73, if_pos h88, he0, ← he, runE_no h100]))
            · refine x_aloadr_n C dX3_next_103 104 rfl rfl ?_
              refine x_aloadr_n C dX3_next_104 105 rfl rfl ?_
              refine x_geti C fl_X3_249 (Or.inl rfl) dX3_next_105 108 rfl hS.1 (tr47 _ _ _ _ _ _ _) ?_
              refine x_aloadr_n C dX3_next_108 109 rfl rfl ?_
              refine x_geti C fl_X3_255 (Or.inl rfl) dX3_next_109 112 rfl hS.1 (tr48 _ _ _ _ _ _ _) ?_
              refine x_isub C dX3_next_112 113 rfl (pk_sub (by omega)) ?_
              refine x_bip (j := 7) C dX3_next_113 115 rfl (by decide) ?_
              refine x_icmpgeN C dX3_next_115 118 144 rfl (by decide) (by omega) (by omega) (fun h115 => ?_) (fun h115 => ?_)
              · refine x_lc (v := 0) C dX3_next_144 145 rfl rfl ?_
                refine x_putl C fl_X3_258 (Or.inl rfl) dX3_next_145 148 rfl hS.1 ?_
                refine x_eqJ (twJ _ _ _) ?_
                refine x_aloadr_n C dX3_next_148 149 rfl rfl ?_
                refine x_dup C dX3_next_149 150 rfl rfl ?_
                refine x_geti C fl_X3_249 (Or.inl rfl) dX3_next_150 153 rfl hS.1 (tr47 _ _ _ _ _ _ _) ?_
                refine x_ic (j := 1) C dX3_next_153 154 rfl ?_
                refine x_iadd C dX3_next_154 155 rfl (nI_add _ _) ?_
                refine x_puti C fl_X3_249 (Or.inl rfl) (Or.inl rfl) dX3_next_155 158 rfl hS.1 ?_
                refine x_eqI (tw47 _ _ _ _ _ _ _ _) ?_
                refine x_goto C dX3_next_158 96 (by decide) ?_
                refine x_eqJ ?_ (ih (q + 1) (by omega) (by omega) (by rw [← he, runE_yes h100]))
                rw [show q + 1 - p = (q - p) + 1 by omega, wvF, show p + (q - p) = q by omega]
                first | rw [if_pos h115] | rw [if_neg h115]
              · refine x_ldc2 C dX3_next_118 121 rfl q1617 ?_
                refine x_aloadr_n C dX3_next_121 122 rfl rfl ?_
                refine x_getl C fl_X3_258 dX3_next_122 125 rfl hS.1 (trJ _ _) ?_
                refine x_lmul C dX3_next_125 126 rfl rfl ?_
                refine x_aloadr_n C dX3_next_126 127 rfl rfl ?_
                refine x_getr C fl_X3_121 (Or.inr ⟨_, rfl⟩) dX3_next_127 130 rfl hS.1 (twR_text hS) ?_
                refine x_aloadr_n C dX3_next_130 131 rfl rfl ?_
                refine x_geti C fl_X3_249 (Or.inl rfl) dX3_next_131 134 rfl hS.1 (tr47 _ _ _ _ _ _ _) ?_
                refine x_bald C dX3_next_134 135 rfl (twA_text hS) (twN_text hS) rfl (by omega) (by decide) (congrFun (trn I _ _ _ _ _ _ (by decide)) _) ?_
                refine x_i2l C dX3_next_135 136 rfl rfl ?_
                refine x_ladd C dX3_next_136 137 rfl rfl ?_
                refine x_ldc2 C dX3_next_137 140 rfl q1618 ?_
                refine x_lsub C dX3_next_140 141 rfl rfl ?_
                refine x_goto C dX3_next_141 145 (by decide) ?_
                refine x_putl C fl_X3_258 (Or.inl rfl) dX3_next_145 148 rfl hS.1 ?_
                refine x_eqJ (twJ _ _ _) ?_
                refine x_aloadr_n C dX3_next_148 149 rfl rfl ?_
                refine x_dup C dX3_next_149 150 rfl rfl ?_
                refine x_geti C fl_X3_249 (Or.inl rfl) dX3_next_150 153 rfl hS.1 (tr47 _ _ _ _ _ _ _) ?_
                refine x_ic (j := 1) C dX3_next_153 154 rfl ?_
                refine x_iadd C dX3_next_154 155 rfl (nI_add _ _) ?_
                refine x_puti C fl_X3_249 (Or.inl rfl) (Or.inl rfl) dX3_next_155 158 rfl hS.1 ?_
                refine x_eqI (tw47 _ _ _ _ _ _ _ _) ?_
                refine x_goto C dX3_next_158 96 (by decide) ?_
                refine x_eqJ ?_ (ih (q + 1) (by omega) (by omega) (by rw [← he, runE_yes h100]))
                rw [show q + 1 - p = (q - p) + 1 by omega, wvF, show p + (q - p) = q by omega]
                first | rw [if_pos h115] | rw [if_neg h115]
        refine x_eqJ ?_ (hl (n - p) p (by omega) (Nat.le_refl _) he0)
        rw [Nat.sub_self]
        rfl
    · refine x_aloadr_n C dX3_next_76 77 rfl rfl ?_
      refine x_ic (j := 0) C dX3_next_77 78 rfl ?_
      refine x_puti C fl_X3_262 (Or.inl rfl) (Or.inl rfl) dX3_next_78 81 rfl hS.1 ?_
      refine x_eqI (tw49 _ _ _ _ _ _ _ _) ?_
      refine x_goto C dX3_next_81 367 (by decide) ?_
      exact x_vret C dX3_next_367 (Nat.le_refl _) (Nat.le_refl _) (Qt_of (by rw [nx, if_pos h73, h73]))
  have hl : ∀ (j q : Nat), q + j = n → runE (blB (I 507) n) j q = nxP (I 507) n a → XX w κ (Zr w κ (Qt I J S (nx (I 507) n a) dp fa fp)) 0 0 0 [some (.ref 473)] [] S (tmI I (nI q) pl tk dp fa fp) (tmJ J v) := by
    intro j
    induction j with
    | zero =>
      intro q hq he
      have hq : q = n := hq
      subst hq
      have he : q = nxP (I 507) q a := he
      rw [← he] at K52
      refine x_aloadr_n C dX3_next_0 1 rfl rfl ?_
      refine x_geti C fl_X3_249 (Or.inl rfl) dX3_next_1 4 rfl hS.1 (tr47 _ _ _ _ _ _ _) ?_
      refine x_aloadr_n C dX3_next_4 5 rfl rfl ?_
      refine x_geti C fl_X3_252 (Or.inl rfl) dX3_next_5 8 rfl hS.1 ((trs _ _ _ _ _ _ _ (by omega)).trans hz) ?_
      refine x_icmpgeN C dX3_next_8 11 52 rfl (by decide) (by omega) (by omega) (fun _ => ?_) (fun h8 => absurd h8 (by omega))
      exact K52
    | succ j ih =>
      intro q hq he
      refine x_aloadr_n C dX3_next_0 1 rfl rfl ?_
      refine x_geti C fl_X3_249 (Or.inl rfl) dX3_next_1 4 rfl hS.1 (tr47 _ _ _ _ _ _ _) ?_
      refine x_aloadr_n C dX3_next_4 5 rfl rfl ?_
      refine x_geti C fl_X3_252 (Or.inl rfl) dX3_next_5 8 rfl hS.1 ((trs _ _ _ _ _ _ _ (by omega)).trans hz) ?_
      refine x_icmpgeN C dX3_next_8 11 52 rfl (by decide) (by omega) (by omega) (fun h8 => absurd h8 (by omega)) (fun _ => ?_)
      refine x_aloadr_n C dX3_next_11 12 rfl rfl ?_
      refine x_getr C fl_X3_121 (Or.inr ⟨_, rfl⟩) dX3_next_12 15 rfl hS.1 (twR_text hS) ?_
      refine x_aloadr_n C dX3_next_15 16 rfl rfl ?_
      refine x_geti C fl_X3_249 (Or.inl rfl) dX3_next_16 19 rfl hS.1 (tr47 _ _ _ _ _ _ _) ?_
      refine x_bald C dX3_next_19 20 rfl (twA_text hS) (twN_text hS) rfl (by omega) (by decide) (congrFun (trn I _ _ _ _ _ _ (by decide)) _) ?_
      refine x_bip (j := 32) C dX3_next_20 22 rfl (by decide) ?_
      refine x_icmpeq C dX3_next_22 25 39 rfl (by decide) (fun h22 => ?_) (fun h22 => ?_)
      · refine x_aloadr_n C dX3_next_39 40 rfl rfl ?_
        refine x_dup C dX3_next_40 41 rfl rfl ?_
        refine x_geti C fl_X3_249 (Or.inl rfl) dX3_next_41 44 rfl hS.1 (tr47 _ _ _ _ _ _ _) ?_
        refine x_ic (j := 1) C dX3_next_44 45 rfl ?_
        refine x_iadd C dX3_next_45 46 rfl (nI_add _ _) ?_
        refine x_puti C fl_X3_249 (Or.inl rfl) (Or.inl rfl) dX3_next_46 49 rfl hS.1 ?_
        refine x_eqI (tw47 _ _ _ _ _ _ _ _) ?_
        refine x_goto C dX3_next_49 0 (by decide) ?_
        exact ih (q + 1) (by omega) (by rw [← he, runE_yes (by simp [blB, h22]; omega)])
      · refine x_aloadr_n C dX3_next_25 26 rfl rfl ?_
        refine x_getr C fl_X3_121 (Or.inr ⟨_, rfl⟩) dX3_next_26 29 rfl hS.1 (twR_text hS) ?_
        refine x_aloadr_n C dX3_next_29 30 rfl rfl ?_
        refine x_geti C fl_X3_249 (Or.inl rfl) dX3_next_30 33 rfl hS.1 (tr47 _ _ _ _ _ _ _) ?_
        refine x_bald C dX3_next_33 34 rfl (twA_text hS) (twN_text hS) rfl (by omega) (by decide) (congrFun (trn I _ _ _ _ _ _ (by decide)) _) ?_
        refine x_bip (j := 10) C dX3_next_34 36 rfl (by decide) ?_
        refine x_icmpne C dX3_next_36 39 52 rfl (by decide) (fun h36 => ?_) (fun h36 => ?_)
        · rw [runE_no (by simp [blB, h22, h36])] at he
          rw [he]
          exact K52
        · refine x_aloadr_n C dX3_next_39 40 rfl rfl ?_
          refine x_dup C dX3_next_40 41 rfl rfl ?_
          refine x_geti C fl_X3_249 (Or.inl rfl) dX3_next_41 44 rfl hS.1 (tr47 _ _ _ _ _ _ _) ?_
          refine x_ic (j := 1) C dX3_next_44 45 rfl ?_
          refine x_iadd C dX3_next_45 46 rfl (nI_add _ _) ?_
          refine x_puti C fl_X3_249 (Or.inl rfl) (Or.inl rfl) dX3_next_46 49 rfl hS.1 ?_
          refine x_eqI (tw47 _ _ _ _ _ _ _ _) ?_
          refine x_goto C dX3_next_49 0 (by decide) ?_
          exact ih (q + 1) (by omega) (by rw [← he, runE_yes (by simp [blB, h22, h36]; omega)])
  exact hl (n - a) a (by omega) rfl
/-! a text that ends -/
def ct (tx : Nat → Int32) (n : Nat) : Nat → Int32 := fun k => if k < n then tx k else 0
end Tw7
theorem runE_congr {P P' : Nat → Bool} : ∀ (f q : Nat), (∀ i, q ≤ i → i < q + f → P i = P' i) → runE P f q = runE P' f q
  | 0, q, _ => rfl
  | f + 1, q, h => by
    rw [runE, runE, h q (Nat.le_refl _) (by omega), runE_congr f (q + 1) (fun i h1 h2 => h i (by omega) (by omega))]
theorem ct_lt {tx : Nat → Int32} {n k : Nat} (h : k < n) : ct tx n k = tx k := if_pos h
theorem blB_ct (tx : Nat → Int32) (n : Nat) : blB (ct tx n) n = blB tx n := by
  funext q
  unfold blB
  by_cases h : q < n
  · rw [ct_lt h]
  · simp [h]
theorem smB_ct (tx : Nat → Int32) (n : Nat) : smB (ct tx n) n = smB tx n := by
  funext q
  unfold smB
  by_cases h : q < n
  · rw [ct_lt h]
  · simp [h]
theorem dgB_ct (tx : Nat → Int32) (n : Nat) : dgB (ct tx n) n = dgB tx n := by
  funext q
  unfold dgB
  by_cases h : q < n
  · rw [ct_lt h]
  · simp [h]
theorem wvF_ct (tx : Nat → Int32) {n p : Nat} : ∀ k, p + k ≤ n → wvF (ct tx n) p k = wvF tx p k
  | 0, _ => rfl
  | k + 1, h => by rw [wvF, wvF, wvF_ct tx k (by omega), ct_lt (by omega)]
theorem dvF_ct (tx : Nat → Int32) {n p : Nat} : ∀ k, p + k ≤ n → dvF (ct tx n) p k = dvF tx p k
  | 0, _ => rfl
  | k + 1, h => by rw [dvF, dvF, dvF_ct tx k (by omega), ct_lt (by omega)]
theorem nx_ct (tx : Nat → Int32) {n a : Nat} (ha : a ≤ n) : nx (ct tx n) n a = nx tx n a := by
  have h1 := nxP_le tx ha
  have e : nxP (ct tx n) n a = nxP tx n a := by unfold nxP; rw [blB_ct]
  have h2 := runE_le (smB tx n) (n - nxP tx n a) (nxP tx n a)
  have h3 := runE_le (dgB tx n) (n - nxP tx n a) (nxP tx n a)
  unfold nx
  rw [e, smB_ct, dgB_ct, wvF_ct tx _ (by omega), dvF_ct tx _ (by omega)]
  by_cases h : nxP tx n a = n
  · rw [if_pos h, if_pos h]
  · rw [ct_lt (by omega)]
section Tw7
variable {w : Wd} {l : Launch} {S : Sh} {I : Mi} {J : Ml} {a n : Nat} {pl tk dp fa fp : Int32} {v : Int64}
theorem kX3_nextc (hS : twS S) (hz : I 473 46 = nI n) (hn : n ≤ 400) {tx : Nat → Int32} (htx : ct (I 507) n = tx) (ha : a ≤ n) : Ct w l yX3_next cX3_next 1 none 2 0 0 [.ref 473] S (tmI I (nI a) pl tk dp fa fp) (tmJ J v) (Qt I J S (nx tx n a) dp fa fp) := by
  rw [← htx, nx_ct _ ha]
  exact kX3_next hS hz hn ha
end Tw7

/-! the twin: the book -/
/-- the cheapest that is left -/
def bst (p : Nat → Int32) (fr : Nat → Bool) : Nat → Option Nat
  | 0 => none
  | r + 1 => if fr r then bst p fr r else match bst p fr r with
    | none => some r
    | some q => if p r < p q then some r else some q
def oI (o : Option Nat) : Int32 := match o with
  | none => -1
  | some q => nI q
def frS (p : Nat → Int32) (n : Nat) (fr : Nat → Bool) : Nat → Bool := match bst p fr n with
  | none => fr
  | some q => fun i => decide (i = q) || fr i
def frI (p : Nat → Int32) (n : Nat) (fr : Nat → Bool) : Nat → Nat → Bool
  | 0 => fr
  | k + 1 => frS p n (frI p n fr k)
theorem bst_lt {p : Nat → Int32} {fr : Nat → Bool} : ∀ {n q : Nat}, bst p fr n = some q → q < n ∧ fr q = false
  | 0, q, h => by cases h
  | n + 1, q, h => by
    unfold bst at h
    split at h
    · have := bst_lt h; exact ⟨by omega, this.2⟩
    · rename_i hf
      split at h
      · cases h; exact ⟨by omega, by simpa using hf⟩
      · rename_i q2 h2
        have := bst_lt h2
        split at h
        · cases h; exact ⟨by omega, by simpa using hf⟩
        · cases h; exact ⟨by omega, this.2⟩
theorem frI_stop {p : Nat → Int32} {n : Nat} {fr : Nat → Bool} {k : Nat} (h : bst p (frI p n fr k) n = none) : ∀ j, k ≤ j → frI p n fr j = frI p n fr k
  | 0, hj => by rw [Nat.le_zero.mp hj]
  | j + 1, hj => by
    rcases Nat.lt_or_ge j k with q | q
    · rw [show k = j + 1 by omega]
    · have := frI_stop h j q
      rw [frI, this, frS, h]
abbrev prI (I : Mi) (t : Nat) : Nat → Int32 := fun r => I 488 (10 * t + r)
def fr0 (I : Mi) (t : Nat) : Nat → Bool := fun r => decide (si I (pn I) t (nI r) = 0)
def biI (I : Mi) (t : Nat) (free : Nat) : Int32 := smI (fun r => if frI (prI I t) (rn I t) (fr0 I t) free r then 0 else prI I t r) (rn I t)
def freeN (I : Mi) (t : Nat) : Nat := nt (tol (rulesOf I t) (nI 3) (stI I t))
def bfq (A B : Mi) : Prop := ∀ b i, b ≠ 507 → b ≠ 518 → ¬ (b = 473 ∧ 46 ≤ i ∧ i ≤ 59) → A b i = B b i
theorem bfq.row {A B : Mi} (h : bfq A B) {b : Nat} (h1 : b ≠ 507) (h3 : b ≠ 518) (h2 : b ≠ 473) : A b = B b := funext fun i => h b i h1 h3 (fun q => h2 q.1)
theorem bfq.g {A B : Mi} (h : bfq A B) : gq A B := by
  intro b i q
  refine h b i ?_ ?_ ?_
  · intro e; subst e; simp [gb] at q
  · intro e; subst e; simp [gb] at q
  · rintro ⟨e, h1, h2⟩
    subst e
    have : gb 473 i = true := by simp [gb, Nat.ble_eq, h1, h2]
    rw [this] at q
    cases q
theorem bz_ne0 (b : Bool) : bz b = 0 ↔ b = false := bz_0 b
section Tw16
variable {w : Wd} {l : Launch} {S : Sh} {I : Mi} {J : Ml}
theorem kX3_billOf (hS : twS S) (hI : Tok I) {t : Nat} (ht : t < 6) (hT : TxOk I t) : Ct w l yX3_billOf cX3_billOf 7 (some .int) 30 0 0 [.ref 473, .int (nI t)] S I J (Qf bfq (biI I t (freeN I t)) S I J) := by
  have hp10 := tk_p2 hI
  have hr10 := tk_r2 hI ht
  have hfn := tol_ok (rulesOf I t) (nI 3) (stI I t)
  have hfn2 : freeN I t ≤ 100 := hfn.2
  refine Ct.of [some _, some _, none, none, none, none, none] rfl (Nat.le_of_ble_eq_true rfl) (by decide) ?_
  intro κ hκ C
  subst hκ
  refine x_aloadr_n C dX3_billOf_0 1 rfl rfl ?_
  refine x_iload_n C dX3_billOf_1 2 rfl rfl ?_
  refine x_ic (j := 3) C dX3_billOf_2 3 rfl ?_
  refine x_callV C lk_X3_387 dX3_billOf_3 6 rfl [_, _] [] rfl rfl hS.1 (Nat.le_of_ble_eq_true rfl) (by decide) (Nat.le_refl _) (Nat.le_refl _) (kX3_now hS hI ht hT) ?_
  rintro _ _ M0 J1 ⟨rfl, rfl, hf0, hj⟩
  rw [show tol (rulesOf I t) (nI 3) (stI I t) = nI (freeN I t) from hfn.1]
  refine x_istore_n C dX3_billOf_6 7 rfl [_, _, _, _, _, _, _] (by decide) rfl rfl ?_
  refine x_ic (j := 0) C dX3_billOf_7 8 rfl ?_
  refine x_istore_n C dX3_billOf_8 9 rfl [_, _, _, _, _, _, _] (by decide) rfl rfl ?_
  refine x_ic (j := 0) C dX3_billOf_9 10 rfl ?_
  refine x_istore C dX3_billOf_10 12 rfl [_, _, _, _, _, _, _] (by decide) rfl rfl ?_
  generalize hF : freeN I t = F at *
  have hD : ∀ (j r : Nat) (M : Mi) (b : Int32), r + j = rn I t → bfq M I → (∀ i, i < rn I t → M 518 i = bz (frI (prI I t) (rn I t) (fr0 I t) F i)) → b = smI (fun r => if frI (prI I t) (rn I t) (fr0 I t) F r then 0 else prI I t r) r → XX w κ (Zr w κ (Qf bfq (biI I t F) S I J)) 0 0 156 [some (.ref 473), some (.int (nI t)), some (.int (nI F)), some (.int b), some (.int (nI r)), none, none] [] S M J1 := by
    intro j
    induction j with
    | zero =>
      intro r M b hr hM hfr hb
      have hr : rn I t = r := Eq.symm hr
      subst hr
      have r5 : M 485 t = nI (rn I t) := (congrFun (hM.row (b := 485) (by decide) (by decide) (by decide)) t).trans (tk_r hI ht)
      refine x_iload C dX3_billOf_156 158 rfl rfl ?_
      refine x_aloadr_n C dX3_billOf_158 159 rfl rfl ?_
      refine x_getr C fl_X3_51 (Or.inr ⟨_, rfl⟩) dX3_billOf_159 162 rfl hS.1 (twR_rooms hS) ?_
      refine x_iload_n C dX3_billOf_162 163 rfl rfl ?_
      refine x_iald C dX3_billOf_163 164 rfl (twA_rooms hS) (twN_rooms hS) rfl (by omega) (by decide) r5 ?_
      refine x_icmpgeN C dX3_billOf_164 167 202 rfl (by decide) (by omega) (by omega) (fun _ => ?_) (fun h164 => absurd h164 (by omega))
      refine x_iload_n C dX3_billOf_202 203 rfl rfl ?_
      exact x_iret C dX3_billOf_203 (Nat.le_refl _) (Nat.le_refl _) ⟨rfl, by rw [hb]; rfl, hM, hj⟩
    | succ j ih =>
      intro r M b hr hM hfr hb
      have r5 : M 485 t = nI (rn I t) := (congrFun (hM.row (b := 485) (by decide) (by decide) (by decide)) t).trans (tk_r hI ht)
      have r8 : M 488 (10 * t + r) = prI I t r := congrFun (hM.row (b := 488) (by decide) (by decide) (by decide)) _
      refine x_iload C dX3_billOf_156 158 rfl rfl ?_
      refine x_aloadr_n C dX3_billOf_158 159 rfl rfl ?_
      refine x_getr C fl_X3_51 (Or.inr ⟨_, rfl⟩) dX3_billOf_159 162 rfl hS.1 (twR_rooms hS) ?_
      refine x_iload_n C dX3_billOf_162 163 rfl rfl ?_
      refine x_iald C dX3_billOf_163 164 rfl (twA_rooms hS) (twN_rooms hS) rfl (by omega) (by decide) r5 ?_
      refine x_icmpgeN C dX3_billOf_164 167 202 rfl (by decide) (by omega) (by omega) (fun h164 => absurd h164 (by omega)) (fun _ => ?_)
      refine x_iload_n C dX3_billOf_167 168 rfl rfl ?_
      refine x_aloadr_n C dX3_billOf_168 169 rfl rfl ?_
      refine x_getr C fl_X3_154 (Or.inr ⟨_, rfl⟩) dX3_billOf_169 172 rfl hS.1 (twR_isFree hS) ?_
      refine x_iload C dX3_billOf_172 174 rfl rfl ?_
      refine x_zald C dX3_billOf_174 175 rfl (twA_isFree hS) (twN_isFree hS) rfl (by omega) (by decide) (hfr r (by omega)) ?_
      refine x_ifeqZ C dX3_billOf_175 178 182 rfl (by decide) (fun h175 => ?_) (fun h175 => ?_)
      · refine x_aloadr_n C dX3_billOf_182 183 rfl rfl ?_
        refine x_getr C fl_X3_60 (Or.inr ⟨_, rfl⟩) dX3_billOf_183 186 rfl hS.1 (twR_price hS) ?_
        refine x_bip (j := 10) C dX3_billOf_186 188 rfl (by decide) ?_
        refine x_iload_n C dX3_billOf_188 189 rfl rfl ?_
        refine x_imul C dX3_billOf_189 190 rfl (pk_mul _ _) ?_
        refine x_iload C dX3_billOf_190 192 rfl rfl ?_
        refine x_iadd C dX3_billOf_192 193 rfl (nI_add _ _) ?_
        refine x_iald C dX3_billOf_193 194 rfl (twA_price hS) (twN_price hS) rfl (by omega) (by decide) r8 ?_
        refine x_iadd C dX3_billOf_194 195 rfl rfl ?_
        refine x_istore_n C dX3_billOf_195 196 rfl [_, _, _, _, _, _, _] (by decide) rfl rfl ?_
        refine x_iinc C dX3_billOf_196 199 rfl [_, _, _, _, _, _, _] (nI_inc _) (by decide) rfl rfl rfl ?_
        refine x_goto C dX3_billOf_199 156 (by decide) ?_
        exact ih (r + 1) M _ (by omega) hM hfr (by rw [smI, hb]; simp [h175, nI_0])
      · refine x_ic (j := 0) C dX3_billOf_178 179 rfl ?_
        refine x_goto C dX3_billOf_179 194 (by decide) ?_
        refine x_iadd C dX3_billOf_194 195 rfl rfl ?_
        refine x_istore_n C dX3_billOf_195 196 rfl [_, _, _, _, _, _, _] (by decide) rfl rfl ?_
        refine x_iinc C dX3_billOf_196 199 rfl [_, _, _, _, _, _, _] (nI_inc _) (by decide) rfl rfl rfl ?_
        refine x_goto C dX3_billOf_199 156 (by decide) ?_
        exact ih (r + 1) M _ (by omega) hM hfr (by rw [smI, hb]; simp [h175, nI_0])
  have hC : ∀ (j k : Nat) (M : Mi), k + j = F → bfq M I → (∀ i, i < rn I t → M 518 i = bz (frI (prI I t) (rn I t) (fr0 I t) k i)) → XX w κ (Zr w κ (Qf bfq (biI I t F) S I J)) 0 0 54 [some (.ref 473), some (.int (nI t)), some (.int (nI F)), some (.int (nI 0)), some (.int (nI k)), none, none] [] S M J1 := by
    intro j
    induction j with
    | zero =>
      intro k M hk hM hfr
      have hk : F = k := Eq.symm hk
      subst hk
      refine x_iload C dX3_billOf_54 56 rfl rfl ?_
      refine x_iload_n C dX3_billOf_56 57 rfl rfl ?_
      refine x_icmpgeN C dX3_billOf_57 60 153 rfl (by decide) (by omega) (by omega) (fun _ => ?_) (fun h57 => absurd h57 (by omega))
      refine x_ic (j := 0) C dX3_billOf_153 154 rfl ?_
      refine x_istore C dX3_billOf_154 156 rfl [_, _, _, _, _, _, _] (by decide) rfl rfl ?_
      exact hD (rn I t) 0 M _ (Nat.zero_add _) hM hfr rfl
    | succ j ih =>
      intro k M hk hM hfr
      have r5 : M 485 t = nI (rn I t) := (congrFun (hM.row (b := 485) (by decide) (by decide) (by decide)) t).trans (tk_r hI ht)
      have r8 : ∀ i, M 488 i = I 488 i := fun i => congrFun (hM.row (b := 488) (by decide) (by decide) (by decide)) i
      have hX : ∀ (j r : Nat) (o : Option Nat), r + j = rn I t → o = bst (prI I t) (frI (prI I t) (rn I t) (fr0 I t) k) r → XX w κ (Zr w κ (Qf bfq (biI I t F) S I J)) 0 0 66 [some (.ref 473), some (.int (nI t)), some (.int (nI F)), some (.int (nI 0)), some (.int (nI k)), some (.int (oI o)), some (.int (nI r))] [] S M J1 := by
        intro j
        induction j with
        | zero =>
          intro r o hr ho
          have hr : rn I t = r := Eq.symm hr
          subst hr
          refine x_iload C dX3_billOf_66 68 rfl rfl ?_
          refine x_aloadr_n C dX3_billOf_68 69 rfl rfl ?_
          refine x_getr C fl_X3_51 (Or.inr ⟨_, rfl⟩) dX3_billOf_69 72 rfl hS.1 (twR_rooms hS) ?_
          refine x_iload_n C dX3_billOf_72 73 rfl rfl ?_
          refine x_iald C dX3_billOf_73 74 rfl (twA_rooms hS) (twN_rooms hS) rfl (by omega) (by decide) r5 ?_
          refine x_icmpgeN C dX3_billOf_74 77 130 rfl (by decide) (by omega) (by omega) (fun _ => ?_) (fun h74 => absurd h74 (by omega))
          refine x_iload C dX3_billOf_130 132 rfl rfl ?_
          refine x_icm C dX3_billOf_132 133 rfl ?_
          refine x_icmpne C dX3_billOf_133 136 139 rfl (by decide) (fun h133 => ?_) (fun h133 => ?_)
          · cases ho2 : o with
            | none => subst ho2; exact absurd rfl h133
            | some q =>
              subst ho2
              have hq := bst_lt ho.symm
              refine x_aloadr_n C dX3_billOf_139 140 rfl rfl ?_
              refine x_getr C fl_X3_154 (Or.inr ⟨_, rfl⟩) dX3_billOf_140 143 rfl hS.1 (twR_isFree hS) ?_
              refine x_iload C dX3_billOf_143 145 rfl rfl ?_
              refine x_ic (j := 1) C dX3_billOf_145 146 rfl ?_
              refine x_zast C dX3_billOf_146 147 rfl (twA_isFree hS) (twN_isFree hS) rfl (by omega) (by decide) rfl ?_
              refine x_iinc C dX3_billOf_147 150 rfl [_, _, _, _, _, _, _] (nI_inc _) (by decide) rfl rfl rfl ?_
              refine x_goto C dX3_billOf_150 54 (by decide) ?_
              refine x_ls [some _, some _, some _, some _, some _, none, none] ⟨rfl, rfl, rfl, rfl, rfl, trivial⟩ ?_
              refine ih (k + 1) _ (by omega) (fun b i q1 q2 q3 => by rw [sto_n _ _ _ q2]; exact hM b i q1 q2 q3) (fun i hi => ?_)
              rw [sto_at, frI, frS, ← ho]
              show _ = bz (decide (i = q) || frI (prI I t) (rn I t) (fr0 I t) k i)
              by_cases hiq : i = q
              · subst hiq; simp [bzt]
              · simp [hiq, hfr i hi]
          · refine x_goto C dX3_billOf_136 153 (by decide) ?_
            refine x_ic (j := 0) C dX3_billOf_153 154 rfl ?_
            refine x_istore C dX3_billOf_154 156 rfl [_, _, _, _, _, _, _] (by decide) rfl rfl ?_
            refine x_ls [some _, some _, some _, some _, some _, none, none] ⟨rfl, rfl, rfl, rfl, rfl, trivial⟩ ?_
            refine hD (rn I t) 0 M _ (Nat.zero_add _) hM (fun i hi => ?_) rfl
            have hn : bst (prI I t) (frI (prI I t) (rn I t) (fr0 I t) k) (rn I t) = none := by
              rw [← ho]
              cases ho2 : o with
              | none => rfl
              | some q => subst ho2; have hq := bst_lt ho.symm; exact absurd h133 (nI_m1 (by omega))
            rw [hfr i hi, frI_stop hn F (by omega)]
        | succ j ih2 =>
          intro r o hr ho
          refine x_iload C dX3_billOf_66 68 rfl rfl ?_
          refine x_aloadr_n C dX3_billOf_68 69 rfl rfl ?_
          refine x_getr C fl_X3_51 (Or.inr ⟨_, rfl⟩) dX3_billOf_69 72 rfl hS.1 (twR_rooms hS) ?_
          refine x_iload_n C dX3_billOf_72 73 rfl rfl ?_
          refine x_iald C dX3_billOf_73 74 rfl (twA_rooms hS) (twN_rooms hS) rfl (by omega) (by decide) r5 ?_
          refine x_icmpgeN C dX3_billOf_74 77 130 rfl (by decide) (by omega) (by omega) (fun h74 => absurd h74 (by omega)) (fun _ => ?_)
          refine x_aloadr_n C dX3_billOf_77 78 rfl rfl ?_
          refine x_getr C fl_X3_154 (Or.inr ⟨_, rfl⟩) dX3_billOf_78 81 rfl hS.1 (twR_isFree hS) ?_
          refine x_iload C dX3_billOf_81 83 rfl rfl ?_
          refine x_zald C dX3_billOf_83 84 rfl (twA_isFree hS) (twN_isFree hS) rfl (by omega) (by decide) (hfr r (by omega)) ?_
          refine x_ifneZ C dX3_billOf_84 87 124 rfl (by decide) (fun h84 => ?_) (fun h84 => ?_)
          · refine x_iinc C dX3_billOf_124 127 rfl [_, _, _, _, _, _, _] (nI_inc _) (by decide) rfl rfl rfl ?_
            refine x_goto C dX3_billOf_127 66 (by decide) ?_
            first
              | exact ih2 (r + 1) o (by omega) (by rw [bst, if_pos h84, ho])
              | exact ih2 (r + 1) (some r) (by omega) (by rw [bst, if_neg (by rw [h84]; decide), ← ho]; cases o with | none => rfl | some q => exact absurd h90 (nI_m1 (by have := bst_lt ho.symm; omega)))
          · refine x_iload C dX3_billOf_87 89 rfl rfl ?_
            refine x_icm C dX3_billOf_89 90 rfl ?_
            refine x_icmpeq C dX3_billOf_90 93 120 rfl (by decide) (fun h90 => ?_) (fun h90 => ?_)
            · refine x_iload C dX3_billOf_120 122 rfl rfl ?_
              refine x_istore C dX3_billOf_122 124 rfl [_, _, _, _, _, _, _] (by decide) rfl rfl ?_
              refine x_iinc C dX3_billOf_124 127 rfl [_, _, _, _, _, _, _] (nI_inc _) (by decide) rfl rfl rfl ?_
              refine x_goto C dX3_billOf_127 66 (by decide) ?_
              first
                | exact ih2 (r + 1) o (by omega) (by rw [bst, if_pos h84, ho])
                | exact ih2 (r + 1) (some r) (by omega) (by rw [bst, if_neg (by rw [h84]; decide), ← ho]; cases o with | none => rfl | some q => exact absurd h90 (nI_m1 (by have := bst_lt ho.symm; omega)))
            · cases ho2 : o with
              | none => subst ho2; exact absurd rfl h90
              | some q =>
                subst ho2
                have hq := bst_lt ho.symm
                refine x_aloadr_n C dX3_billOf_93 94 rfl rfl ?_
                refine x_getr C fl_X3_60 (Or.inr ⟨_, rfl⟩) dX3_billOf_94 97 rfl hS.1 (twR_price hS) ?_
                refine x_bip (j := 10) C dX3_billOf_97 99 rfl (by decide) ?_
                refine x_iload_n C dX3_billOf_99 100 rfl rfl ?_
                refine x_imul C dX3_billOf_100 101 rfl (pk_mul _ _) ?_
                refine x_iload C dX3_billOf_101 103 rfl rfl ?_
                refine x_iadd C dX3_billOf_103 104 rfl (nI_add _ _) ?_
                refine x_iald C dX3_billOf_104 105 rfl (twA_price hS) (twN_price hS) rfl (by omega) (by decide) (r8 _) ?_
                refine x_aloadr_n C dX3_billOf_105 106 rfl rfl ?_
                refine x_getr C fl_X3_60 (Or.inr ⟨_, rfl⟩) dX3_billOf_106 109 rfl hS.1 (twR_price hS) ?_
                refine x_bip (j := 10) C dX3_billOf_109 111 rfl (by decide) ?_
                refine x_iload_n C dX3_billOf_111 112 rfl rfl ?_
                refine x_imul C dX3_billOf_112 113 rfl (pk_mul _ _) ?_
                refine x_iload C dX3_billOf_113 115 rfl rfl ?_
                refine x_iadd C dX3_billOf_115 116 rfl (nI_add _ _) ?_
                refine x_iald C dX3_billOf_116 117 rfl (twA_price hS) (twN_price hS) rfl (by omega) (by decide) (r8 _) ?_
                refine x_icmpge C dX3_billOf_117 120 124 rfl (by decide) (fun h117 => ?_) (fun h117 => ?_)
                · refine x_iinc C dX3_billOf_124 127 rfl [_, _, _, _, _, _, _] (nI_inc _) (by decide) rfl rfl rfl ?_
                  refine x_goto C dX3_billOf_127 66 (by decide) ?_
                  first
                    | exact ih2 (r + 1) (some q) (by omega) (by rw [bst, if_neg (by rw [h84]; decide), ← ho]; exact (if_neg h117).symm)
                    | exact ih2 (r + 1) (some r) (by omega) (by rw [bst, if_neg (by rw [h84]; decide), ← ho]; exact (if_pos h117).symm)
                · refine x_iload C dX3_billOf_120 122 rfl rfl ?_
                  refine x_istore C dX3_billOf_122 124 rfl [_, _, _, _, _, _, _] (by decide) rfl rfl ?_
                  refine x_iinc C dX3_billOf_124 127 rfl [_, _, _, _, _, _, _] (nI_inc _) (by decide) rfl rfl rfl ?_
                  refine x_goto C dX3_billOf_127 66 (by decide) ?_
                  first
                    | exact ih2 (r + 1) (some q) (by omega) (by rw [bst, if_neg (by rw [h84]; decide), ← ho]; exact (if_neg h117).symm)
                    | exact ih2 (r + 1) (some r) (by omega) (by rw [bst, if_neg (by rw [h84]; decide), ← ho]; exact (if_pos h117).symm)
      refine x_iload C dX3_billOf_54 56 rfl rfl ?_
      refine x_iload_n C dX3_billOf_56 57 rfl rfl ?_
      refine x_icmpgeN C dX3_billOf_57 60 153 rfl (by decide) (by omega) (by omega) (fun h57 => absurd h57 (by omega)) (fun _ => ?_)
      refine x_icm C dX3_billOf_60 61 rfl ?_
      refine x_istore C dX3_billOf_61 63 rfl [_, _, _, _, _, _, _] (by decide) rfl rfl ?_
      refine x_ic (j := 0) C dX3_billOf_63 64 rfl ?_
      refine x_istore C dX3_billOf_64 66 rfl [_, _, _, _, _, _, _] (by decide) rfl rfl ?_
      exact hX (rn I t) 0 none (Nat.zero_add _) rfl
  have hB : ∀ (j r : Nat) (M : Mi), r + j = rn I t → bfq M I → (∀ i, i < r → M 518 i = bz (fr0 I t i)) → XX w κ (Zr w κ (Qf bfq (biI I t F) S I J)) 0 0 12 [some (.ref 473), some (.int (nI t)), some (.int (nI F)), some (.int (nI 0)), some (.int (nI r)), none, none] [] S M J1 := by
    intro j
    induction j with
    | zero =>
      intro r M hr hM hfr
      have hr : rn I t = r := Eq.symm hr
      subst hr
      have r5 : M 485 t = nI (rn I t) := (congrFun (hM.row (b := 485) (by decide) (by decide) (by decide)) t).trans (tk_r hI ht)
      refine x_iload C dX3_billOf_12 14 rfl rfl ?_
      refine x_aloadr_n C dX3_billOf_14 15 rfl rfl ?_
      refine x_getr C fl_X3_51 (Or.inr ⟨_, rfl⟩) dX3_billOf_15 18 rfl hS.1 (twR_rooms hS) ?_
      refine x_iload_n C dX3_billOf_18 19 rfl rfl ?_
      refine x_iald C dX3_billOf_19 20 rfl (twA_rooms hS) (twN_rooms hS) rfl (by omega) (by decide) r5 ?_
      refine x_icmpgeN C dX3_billOf_20 23 51 rfl (by decide) (by omega) (by omega) (fun _ => ?_) (fun h20 => absurd h20 (by omega))
      refine x_ic (j := 0) C dX3_billOf_51 52 rfl ?_
      refine x_istore C dX3_billOf_52 54 rfl [_, _, _, _, _, _, _] (by decide) rfl rfl ?_
      exact hC F 0 M (Nat.zero_add _) hM hfr
    | succ j ih =>
      intro r M hr hM hfr
      have r5 : M 485 t = nI (rn I t) := (congrFun (hM.row (b := 485) (by decide) (by decide) (by decide)) t).trans (tk_r hI ht)
      have r1 : M 473 1 = nI (pn I) := (hM 473 1 (by decide) (by decide) (by omega)).trans (tk_p hI)
      have r490 := hM.row (b := 490) (by decide) (by decide) (by decide)
      refine x_iload C dX3_billOf_12 14 rfl rfl ?_
      refine x_aloadr_n C dX3_billOf_14 15 rfl rfl ?_
      refine x_getr C fl_X3_51 (Or.inr ⟨_, rfl⟩) dX3_billOf_15 18 rfl hS.1 (twR_rooms hS) ?_
      refine x_iload_n C dX3_billOf_18 19 rfl rfl ?_
      refine x_iald C dX3_billOf_19 20 rfl (twA_rooms hS) (twN_rooms hS) rfl (by omega) (by decide) r5 ?_
      refine x_icmpgeN C dX3_billOf_20 23 51 rfl (by decide) (by omega) (by omega) (fun h20 => absurd h20 (by omega)) (fun _ => ?_)
      refine x_aloadr_n C dX3_billOf_23 24 rfl rfl ?_
      refine x_getr C fl_X3_154 (Or.inr ⟨_, rfl⟩) dX3_billOf_24 27 rfl hS.1 (twR_isFree hS) ?_
      refine x_iload C dX3_billOf_27 29 rfl rfl ?_
      refine x_aloadr_n C dX3_billOf_29 30 rfl rfl ?_
      refine x_iload_n C dX3_billOf_30 31 rfl rfl ?_
      refine x_iload C dX3_billOf_31 33 rfl rfl ?_
      refine x_callV C lk_X3_211 dX3_billOf_33 36 rfl [_, _] [_, _] rfl rfl hS.1 (Nat.le_of_ble_eq_true rfl) (by decide) (Nat.le_refl _) (Nat.le_refl _) (kX3_setIn hS r1 hp10 ht) ?_
      rintro _ _ _ _ ⟨rfl, rfl, rfl, rfl⟩
      rw [si_q r490]
      apply x_jNZ0 (pj := 44) (fun kt kf => x_ifneN C dX3_billOf_36 39 43 rfl (by decide) (Nat.lt_of_lt_of_le (si_lt I t _ hp10) (by decide)) kt kf)
      case ht =>
        intro K
        refine x_ic (j := 0) C dX3_billOf_43 44 rfl ?_
        exact K
      case hf =>
        intro K
        refine x_ic (j := 1) C dX3_billOf_39 40 rfl ?_
        refine x_goto C dX3_billOf_40 44 (by decide) ?_
        exact K
      refine x_zast C dX3_billOf_44 45 rfl (twA_isFree hS) (twN_isFree hS) rfl (by omega) (by decide) (bz_nar _) ?_
      refine x_iinc C dX3_billOf_45 48 rfl [_, _, _, _, _, _, _] (nI_inc _) (by decide) rfl rfl rfl ?_
      refine x_goto C dX3_billOf_48 12 (by decide) ?_
      refine ih (r + 1) _ (by omega) (fun b i q1 q2 q3 => by rw [sto_n _ _ _ q2]; exact hM b i q1 q2 q3) (fun i hi => ?_)
      rw [sto_at]
      by_cases hir : i = r
      · subst hir; simp [fr0]
      · simp [hir]; exact hfr i (by omega)
  exact hB (rn I t) 0 M0 (Nat.zero_add _) (fun b i q1 q2 q3 => hf0 b i q1 q3) (fun i hi => by omega)
end Tw16

/-! the twin: put, right, listed; what is told -/
/-- those who don't share with one who comes -/
def ptP (I : Mi) (s q p : Nat) : Bool := s.testBit p && !shB I p q
def putB (I : Mi) (t p : Nat) (r : Int32) : Bool :=
  decide (r = -1) || (!decide (I 489 (10 * t + nt r) = 0) && !(!decide (I 476 p = 0) && decide (I 487 (10 * t + nt r) = 0)) && decide (cnt (ptP I (nd (si I (pn I) t r) (2 ^ p)) p) (pn I) = 0) && decide (nI (cnt (nd (si I (pn I) t r) (2 ^ p)).testBit (pn I)) < I 486 (10 * t + nt r)))
def sp_put (I : Mi) (t p r : Int32) : Int32 × Mi :=
  if opB I t && peB I p && thB I (nt p) t && (decide (r = -1) || inB r (nI 0) (I 485 (nt t) - nI 1)) && putB I (nt t) (nt p) r && !(!decide (I 490 (10 * nt t + nt p) = r) && decide (I 473 26 = nI 500)) then (nI 1, noteT I (nt t) (nt p) r) else no0 I
def riB (I : Mi) (t : Nat) : Bool := decide (cnt (fun p => thB I p (nI t) && decide (I 490 (10 * t + p) = -1)) (pn I) = 0) && decide (cnt (fun r => !mbB I (10 * t + r) (si I (pn I) t (nI r)) (pn I)) (rn I t) = 0)
def lsN (I : Mi) (a : Nat) (d : Int32) : Nat → Int32
  | 0 => -1
  | k + 1 => if I 492 k = nI a ∧ ¬ d < I 491 k then I 493 k else lsN I a d k
def sp_listed (I : Mi) (t p d : Int32) : Int32 := if toB I t && peB I p && inB d (nI 0) (I 473 14) then lsN I (10 * nt t + nt p) d (nn I) else -1
theorem cnt_ge {P : Nat → Bool} {p n : Nat} (h : P p = true) (hp : p < n) : ¬ cnt P n = 0 := by
  have h1 := cnt_t h
  have h2 := cnt_mono P (show p + 1 ≤ n by omega)
  omega
theorem cnt_0 {P : Nat → Bool} {n : Nat} (h : cnt P n = 0) : ∀ p, p < n → P p = false := by
  intro p hp
  cases e : P p with
  | false => rfl
  | true => exact absurd h (cnt_ge e hp)
theorem Qe_of {v v' : Int32} {S : Sh} {I : Mi} {J : Ml} (h : v = v') : Qe (some (.int v)) S I J (some (.int v')) S I J := ⟨by rw [h], rfl, rfl, rfl⟩
theorem Qz_of {b : Bool} {v : Int32} {S : Sh} {I : Mi} {J : Ml} (h : bz b = v) : Qe (some (.int (bz b))) S I J (some (.int v)) S I J := ⟨by rw [h], rfl, rfl, rfl⟩
theorem bzt : bz true = nI 1 := rfl
theorem bzf : bz false = nI 0 := rfl
theorem nI_lit (a b : Nat) (ha : a < 100000) (hb : b < 100000) : (nI a = nI b) = (a = b) := propext (nI_eq (by omega) (by omega))
def sp_right (I : Mi) (t : Int32) : Bool := toB I t && riB I (nt t)
def sp_lay (I : Mi) (k p : Int32) : Int32 := if inB k (nI 0) (I 473 13 - nI 1) && peB I p then I 495 (10 * nt k + nt p) else -1
def sp_bill (I : Mi) (k : Int32) : Int32 × Mi := if inB k (nI 0) (I 473 13 - nI 1) then (I 496 (nt k), sto I 473 0 (nI 0)) else (nI 0, sto I 473 0 (nI 1))
def sp_owes (I : Mi) (p : Int32) : Int32 × Mi := if peB I p then (I 497 (nt p), sto I 473 0 (nI 0)) else (nI 0, sto I 473 0 (nI 1))
def mlP (I : Mi) (t : Nat) (d : Int32) (p : Nat) : Bool := !decide (I 490 (10 * t + p) = -1) && decide (I 477 p = d)
def sp_meals (I : Mi) (t d : Int32) : Int32 := if toB I t && inB d (nI 0) (nI 3) then nI (cnt (mlP I (nt t) d) (pn I)) else -1
def sp_townOf (I : Mi) (t k : Int32) : Int32 := if toB I t then (if k = nI 0 then I 483 (nt t) else if k = nI 1 then I 484 (nt t) else if k = nI 2 then I 485 (nt t) else if k = nI 3 then nI (heldN I (nt t) (rn I (nt t))) else if k = nI 4 then nI (usedN I (pn I) (nt t) (rn I (nt t))) else if k = nI 5 then nI (peopN I (nt t) (pn I)) else if k = nI 6 then costI I (pn I) (nt t) (rn I (nt t)) else if k = nI 7 then bz (ovB I (nt t)) else if k = nI 8 then I 506 (nt t) else -1) else -1
def sp_roomOf (I : Mi) (t r k : Int32) : Int32 := if toB I t && inB r (nI 0) (I 485 (nt t) - nI 1) then (if k = nI 0 then I 486 (10 * nt t + nt r) else if k = nI 1 then bz (!decide (I 487 (10 * nt t + nt r) = 0)) else if k = nI 2 then I 488 (10 * nt t + nt r) else if k = nI 3 then bz (!decide (I 489 (10 * nt t + nt r) = 0)) else if k = nI 4 then nI (si I (pn I) (nt t) r) else -1) else -1
def shP (I : Mi) (p q : Nat) : Bool := !decide (q = p) && decide (I 480 q = 0) && shB I p q
def sp_personOf (I : Mi) (p k : Int32) : Int32 := if peB I p then (if k = nI 0 then bz (!decide (I 474 (nt p) = 0)) else if k = nI 1 then I 475 (nt p) else if k = nI 2 then bz (!decide (I 476 (nt p) = 0)) else if k = nI 3 then I 477 (nt p) else if k = nI 4 then I 478 (nt p) else if k = nI 5 then I 479 (nt p) else if k = nI 6 then bz (!decide (I 480 (nt p) = 0)) else if k = nI 7 then I 481 (nt p) else if k = nI 8 then nI (cnt (shP I (nt p)) (pn I)) else -1) else -1
def sp_count (I : Mi) (k : Int32) : Int32 := if k = nI 0 then I 473 14 else if k = nI 1 then I 473 15 else if k = nI 2 then I 473 16 else if k = nI 3 then I 473 1 else if k = nI 4 then I 473 11 else if k = nI 5 then I 473 12 else if k = nI 6 then I 473 13 else if k = nI 7 then I 473 17 else if k = nI 8 then I 473 41 else if k = nI 9 then I 473 63 else if k = nI 10 then I 473 26 else -1
def sp_sight (I : Mi) (o s k : Int32) : Int32 × Mi :=
  if inB o (nI 0) (nI 1440) && inB s (nI 0) (nI 1440) && inB k (nI 1) (nI 300) && !decide (s < o + k) && !decide (I 473 63 = nI 6) then
    (nI (sn I + 1), sto (sto (sto (sto I 473 63 (nI (sn I + 1))) 510 (sn I + 1) o) 511 (sn I + 1) s) 512 (sn I + 1) k)
  else no1 I
def sp_way (I : Mi) (a b m : Int32) : Int32 × Mi :=
  if inB a (nI 0) (I 473 63) && inB b (nI 0) (I 473 63) && !decide (a = b) && inB m (nI 0) (nI 270) then (nI 1, sto I 513 (7 * nt a + nt b) m) else no0 I
def clrS (I : Mi) : Nat → Mi
  | 0 => sto I 473 63 (nI 0)
  | k + 1 => sto (clrS I k) 513 k (nI 0)
def sp_clear (I : Mi) : Int32 × Mi := (I 473 63, clrS I 49)
def sp_tripOf (I : Mi) (k : Int32) : Int32 :=
  if I 473 70 = 0 then -1 else if inB k (nI 10) (nI 9 + I 473 71) then I 516 (nt (k - nI 10)) else if inB k (nI 20) (nI 19 + I 473 71) then I 517 (nt (k - nI 20)) else if k = 0 then I 473 72 else if k = nI 1 then I 473 73 else if k = nI 2 then I 473 74 else -1
def loB (I : Mi) (t d up dw sm : Int32) : Bool := toB I t && inB d (nI 0) (nI 30) && inB up (nI 0) (nI 3) && inB dw (nI 0) (nI 3) && inB sm (nI 0) (nI 1000)
def prt (I : Mi) (t r : Nat) (h : Int32) : Int32 := (I 488 (10 * t + r) * I 483 t * h + nI 99) / nI 100
def owS (I : Mi) (k p : Nat) (s f : Int32) : Mi := sto I 497 p (I 497 p + (if I 494 (10 * k + p) = 0 then s else s - s * f / nI 100))
theorem in_iff {a lo hi n : Nat} (hlo : lo < 2 ^ 31) (hhi : hi < 2 ^ 31) (ha : a < 2 ^ 31) : inB (nI a) (nI lo) (nI hi) = true ↔ lo ≤ a ∧ a ≤ hi := by
  rw [inB_iff, nI_leI hlo ha, nI_leI ha hhi]
theorem in_ex {v : Int32} {lo hi : Nat} (hlo : lo < 2 ^ 31) (hhi : hi < 2 ^ 31) (h : inB v (nI lo) (nI hi) = true) : ∃ a : Nat, lo ≤ a ∧ a ≤ hi ∧ v = nI a := by
  obtain ⟨h1, h2⟩ := inB_iff.mp h
  have h3 : (0 : Int32) ≤ v := Int32.le_trans (nI_pos' hlo) h1
  obtain ⟨a, ha, rfl⟩ := nI_of (Int32.not_lt.mpr h3)
  exact ⟨a, (nI_leI hlo ha).mp h1, (nI_leI ha hhi).mp h2, rfl⟩
section Tw6
variable {w : Wd} {l : Launch} {S : Sh} {I : Mi} {J : Ml}
theorem kX3_put (hS : twS S) (hI : Tok I) {t p r : Int32} : Ct w l yX3_put cX3_put 9 (some .boolean) 4 0 0 [.ref 473, .int t, .int p, .int r] S I J (Qm (sp_put I t p r) S J) := by
  refine Ct.of [some _, some _, some _, some _, none, none, none, none, none] rfl (Nat.le_of_ble_eq_true rfl) (by decide) ?_
  intro κ hκ C
  subst hκ
  have hp10 := tk_p2 hI
  have ht6 := tk_t2 hI
  have hg30 := tk_g2 hI
  have hc30 := tk_c2 hI
  have hn500 := tk_n2 hI
  refine x_aloadr_n C dX3_put_0 1 rfl rfl ?_
  refine x_iload_n C dX3_put_1 2 rfl rfl ?_
  refine x_callV C lk_X3_198 dX3_put_2 5 rfl [_] [] rfl rfl hS.1 (Nat.le_of_ble_eq_true rfl) (by decide) (Nat.le_refl _) (Nat.le_refl _) (kX3_isOpenI hS (tk_t hI) (tk_t2 hI)) ?_
  rintro _ _ _ _ ⟨rfl, rfl, rfl, rfl⟩
  refine x_ifeqZ C dX3_put_5 8 39 rfl (by decide) (fun h5 => ?_) (fun h5 => ?_)
  · refine x_ic (j := 0) C dX3_put_39 40 rfl ?_
    exact x_zret C dX3_put_40 (Nat.le_refl _) (Nat.le_refl _) rfl (Qm_of (by simp [sp_put, no0, h5]))
  · refine x_aloadr_n C dX3_put_8 9 rfl rfl ?_
    refine x_iload_n C dX3_put_9 10 rfl rfl ?_
    refine x_callV C lk_X3_177 dX3_put_10 13 rfl [_] [] rfl rfl hS.1 (Nat.le_of_ble_eq_true rfl) (by decide) (Nat.le_refl _) (Nat.le_refl _) (kX3_isPerson hS) ?_
    rintro _ _ _ _ ⟨rfl, rfl, rfl, rfl⟩
    refine x_ifeqZ C dX3_put_13 16 39 rfl (by decide) (fun h13 => ?_) (fun h13 => ?_)
    · refine x_ic (j := 0) C dX3_put_39 40 rfl ?_
      exact x_zret C dX3_put_40 (Nat.le_refl _) (Nat.le_refl _) rfl (Qm_of (by simp [sp_put, no0, h5, h13]))
    · obtain ⟨t, ht, rfl⟩ := to_I hI (op_to h5)
      obtain ⟨p, hp, rfl⟩ := pe_I hI h13
      have et : nt (nI t) = t := nt_nI (by omega)
      have ep : nt (nI p) = p := nt_nI (by omega)
      refine x_aloadr_n C dX3_put_16 17 rfl rfl ?_
      refine x_iload_n C dX3_put_17 18 rfl rfl ?_
      refine x_iload_n C dX3_put_18 19 rfl rfl ?_
      refine x_callV C lk_X3_205 dX3_put_19 22 rfl [_, _] [] rfl rfl hS.1 (Nat.le_of_ble_eq_true rfl) (by decide) (Nat.le_refl _) (Nat.le_refl _) (kX3_isThere hS (by omega)) ?_
      rintro _ _ _ _ ⟨rfl, rfl, rfl, rfl⟩
      refine x_ifeqZ C dX3_put_22 25 39 rfl (by decide) (fun h22 => ?_) (fun h22 => ?_)
      · refine x_ic (j := 0) C dX3_put_39 40 rfl ?_
        exact x_zret C dX3_put_40 (Nat.le_refl _) (Nat.le_refl _) rfl (Qm_of (by simp [sp_put, putB, no0, h5, h13, et, ep, h22]))
      · refine x_iload_n C dX3_put_25 26 rfl rfl ?_
        refine x_icm C dX3_put_26 27 rfl ?_
        refine x_icmpeq C dX3_put_27 30 41 rfl (by decide) (fun h27 => ?_) (fun h27 => ?_)
        · subst h27
          refine x_ic (j := 1) C dX3_put_41 42 rfl ?_
          refine x_iload_n C dX3_put_42 43 rfl rfl ?_
          refine x_ishl C dX3_put_43 44 rfl (nI_shl1' _ (by omega)) ?_
          refine x_istore C dX3_put_44 46 rfl [_, _, _, _, _, _, _, _, _] (by decide) rfl rfl ?_
          refine x_iload_n C dX3_put_46 47 rfl rfl ?_
          refine x_icm C dX3_put_47 48 rfl ?_
          refine x_icmpeq C dX3_put_48 51 166 rfl (by decide) (fun _ => ?_) (fun h48 => absurd h48 (not_not_intro rfl))
          refine x_aloadr_n C dX3_put_166 167 rfl rfl ?_
          refine x_getr C fl_X3_66 (Or.inr ⟨_, rfl⟩) dX3_put_167 170 rfl hS.1 (twR_list hS) ?_
          refine x_bip (j := 10) C dX3_put_170 172 rfl (by decide) ?_
          refine x_iload_n C dX3_put_172 173 rfl rfl ?_
          refine x_imul C dX3_put_173 174 rfl (pk_mul _ _) ?_
          refine x_iload_n C dX3_put_174 175 rfl rfl ?_
          refine x_iadd C dX3_put_175 176 rfl (nI_add _ _) ?_
          refine x_iald C dX3_put_176 177 rfl (twA_list hS) (twN_list hS) rfl (by omega) (by decide) rfl ?_
          refine x_iload_n C dX3_put_177 178 rfl rfl ?_
          refine x_icmpeq C dX3_put_178 181 193 rfl (by decide) (fun h178 => ?_) (fun h178 => ?_)
          · refine x_aloadr_n C dX3_put_193 194 rfl rfl ?_
            refine x_iload_n C dX3_put_194 195 rfl rfl ?_
            refine x_iload_n C dX3_put_195 196 rfl rfl ?_
            refine x_iload_n C dX3_put_196 197 rfl rfl ?_
            refine x_callV C lk_X3_186 dX3_put_197 200 rfl [_, _, _] [] rfl rfl hS.1 (Nat.le_of_ble_eq_true rfl) (by decide) (Nat.le_refl _) (Nat.le_refl _) (kX3_notes hS (by omega) (by omega) (tk_n hI) (fun h => by first | omega | exact absurd h178 h)) ?_
            rintro _ _ _ _ ⟨rfl, rfl, rfl, rfl⟩
            refine x_ic (j := 1) C dX3_put_200 201 rfl ?_
            exact x_zret C dX3_put_201 (Nat.le_refl _) (Nat.le_refl _) rfl (Qm_of (by simp [sp_put, putB, no0, h5, h13, et, ep, h22, h178]))
          · refine x_aloadr_n C dX3_put_181 182 rfl rfl ?_
            refine x_geti C fl_X3_180 (Or.inl rfl) dX3_put_182 185 rfl hS.1 rfl ?_
            refine x_sip (j := 500) C dX3_put_185 188 rfl (by decide) ?_
            refine x_icmpne C dX3_put_188 191 193 rfl (by decide) (fun h188 => ?_) (fun h188 => ?_)
            · have e188 : ¬ nn I = 500 := fun q => h188 (by rw [tk_n hI, q])
              refine x_aloadr_n C dX3_put_193 194 rfl rfl ?_
              refine x_iload_n C dX3_put_194 195 rfl rfl ?_
              refine x_iload_n C dX3_put_195 196 rfl rfl ?_
              refine x_iload_n C dX3_put_196 197 rfl rfl ?_
              refine x_callV C lk_X3_186 dX3_put_197 200 rfl [_, _, _] [] rfl rfl hS.1 (Nat.le_of_ble_eq_true rfl) (by decide) (Nat.le_refl _) (Nat.le_refl _) (kX3_notes hS (by omega) (by omega) (tk_n hI) (fun h => by first | omega | exact absurd h178 h)) ?_
              rintro _ _ _ _ ⟨rfl, rfl, rfl, rfl⟩
              refine x_ic (j := 1) C dX3_put_200 201 rfl ?_
              exact x_zret C dX3_put_201 (Nat.le_refl _) (Nat.le_refl _) rfl (Qm_of (by simp [sp_put, putB, no0, h5, h13, et, ep, h22, h178, h188]))
            · refine x_ic (j := 0) C dX3_put_191 192 rfl ?_
              exact x_zret C dX3_put_192 (Nat.le_refl _) (Nat.le_refl _) rfl (Qm_of (by simp [sp_put, putB, no0, h5, h13, et, ep, h22, h178, h188]))
        · refine x_aloadr_n C dX3_put_30 31 rfl rfl ?_
          refine x_iload_n C dX3_put_31 32 rfl rfl ?_
          refine x_iload_n C dX3_put_32 33 rfl rfl ?_
          refine x_callV C lk_X3_208 dX3_put_33 36 rfl [_, _] [] rfl rfl hS.1 (Nat.le_of_ble_eq_true rfl) (by decide) (Nat.le_refl _) (Nat.le_refl _) (kX3_isRoom hS (by omega)) ?_
          rintro _ _ _ _ ⟨rfl, rfl, rfl, rfl⟩
          refine x_ifneZ C dX3_put_36 39 41 rfl (by decide) (fun h36 => ?_) (fun h36 => ?_)
          · refine x_ic (j := 1) C dX3_put_41 42 rfl ?_
            refine x_iload_n C dX3_put_42 43 rfl rfl ?_
            refine x_ishl C dX3_put_43 44 rfl (nI_shl1' _ (by omega)) ?_
            refine x_istore C dX3_put_44 46 rfl [_, _, _, _, _, _, _, _, _] (by decide) rfl rfl ?_
            refine x_iload_n C dX3_put_46 47 rfl rfl ?_
            refine x_icm C dX3_put_47 48 rfl ?_
            refine x_icmpeq C dX3_put_48 51 166 rfl (by decide) (fun h48 => absurd h48 h27) (fun _ => ?_)
            obtain ⟨r, hr, rfl⟩ := in_of (m := rn I t) (by rw [← tk_r hI (by omega)]; exact h36) (by have := tk_r2 hI (show t < 6 by omega); omega)
            have hr10 : r < 10 := by have := tk_r2 hI (show t < 6 by omega); omega
            have er : nt (nI r) = r := nt_nI (by omega)
            refine x_aloadr_n C dX3_put_51 52 rfl rfl ?_
            refine x_iload_n C dX3_put_52 53 rfl rfl ?_
            refine x_iload_n C dX3_put_53 54 rfl rfl ?_
            refine x_callV C lk_X3_211 dX3_put_54 57 rfl [_, _] [] rfl rfl hS.1 (Nat.le_of_ble_eq_true rfl) (by decide) (Nat.le_refl _) (Nat.le_refl _) (kX3_setIn hS (tk_p hI) (tk_p2 hI) (by omega)) ?_
            rintro _ _ _ _ ⟨rfl, rfl, rfl, rfl⟩
            refine x_iload C dX3_put_57 59 rfl rfl ?_
            refine x_icm C dX3_put_59 60 rfl ?_
            refine x_ixor C dX3_put_60 61 rfl rfl ?_
            refine x_iand C dX3_put_61 62 rfl (nI_nd _ _) ?_
            refine x_istore C dX3_put_62 64 rfl [_, _, _, _, _, _, _, _, _] (by decide) rfl rfl ?_
            refine x_bip (j := 10) C dX3_put_64 66 rfl (by decide) ?_
            refine x_iload_n C dX3_put_66 67 rfl rfl ?_
            refine x_imul C dX3_put_67 68 rfl (pk_mul _ _) ?_
            refine x_iload_n C dX3_put_68 69 rfl rfl ?_
            refine x_iadd C dX3_put_69 70 rfl (nI_add _ _) ?_
            refine x_istore C dX3_put_70 72 rfl [_, _, _, _, _, _, _, _, _] (by decide) rfl rfl ?_
            refine x_aloadr_n C dX3_put_72 73 rfl rfl ?_
            refine x_getr C fl_X3_63 (Or.inr ⟨_, rfl⟩) dX3_put_73 76 rfl hS.1 (twR_held hS) ?_
            refine x_iload C dX3_put_76 78 rfl rfl ?_
            refine x_zald C dX3_put_78 79 rfl (twA_held hS) (twN_held hS) rfl (by omega) (by decide) rfl ?_
            refine x_ifeq C dX3_put_79 82 101 rfl (by decide) (fun h79 => ?_) (fun h79 => ?_)
            · refine x_ic (j := 0) C dX3_put_101 102 rfl ?_
              exact x_zret C dX3_put_102 (Nat.le_refl _) (Nat.le_refl _) rfl (Qm_of (by simp [sp_put, putB, no0, h5, h13, et, ep, h22, h27, h36, er, h79]))
            · refine x_aloadr_n C dX3_put_82 83 rfl rfl ?_
              refine x_getr C fl_X3_21 (Or.inr ⟨_, rfl⟩) dX3_put_83 86 rfl hS.1 (twR_low hS) ?_
              refine x_iload_n C dX3_put_86 87 rfl rfl ?_
              refine x_zald C dX3_put_87 88 rfl (twA_low hS) (twN_low hS) rfl (by omega) (by decide) rfl ?_
              refine x_ifeq C dX3_put_88 91 103 rfl (by decide) (fun h88 => ?_) (fun h88 => ?_)
              · refine x_ic (j := 0) C dX3_put_103 104 rfl ?_
                refine x_istore C dX3_put_104 106 rfl [_, _, _, _, _, _, _, _, _] (by decide) rfl rfl ?_
                refine x_ic (j := 0) C dX3_put_106 107 rfl ?_
                refine x_istore C dX3_put_107 109 rfl [_, _, _, _, _, _, _, _, _] (by decide) rfl rfl ?_
                have hsb : nd (si I (pn I) t (nI r)) (2 ^ p) < 1024 := nd_lt (n := 10) (si_lt I t _ hp10)
                generalize hs : nd (si I (pn I) t (nI r)) (2 ^ p) = s at *
                have hloop109 : ∀ (j k : Nat) (c : Nat), k + j = (pn I) → c = cnt s.testBit k → cnt (ptP I s p) k = 0 → XX w κ (Zr w κ (Qm (sp_put I (nI t) (nI p) (nI r)) S J)) 0 0 109 [some (.ref 473), some (.int (nI t)), some (.int (nI p)), some (.int (nI r)), some (.int (nI (2 ^ p))), some (.int (nI s)), some (.int (nI (10 * t + r))), some (.int (nI c)), some (.int (nI k))] [] S I J := by
                  intro j
                  induction j with
                  | zero =>
                    intro k c e109 h_c hz
                    have e109 : (pn I) = k := Eq.symm e109
                    subst e109
                    subst h_c
                    have hcl := cnt_le s.testBit (pn I)
                    refine x_iload C dX3_put_109 111 rfl rfl ?_
                    refine x_aloadr_n C dX3_put_111 112 rfl rfl ?_
                    refine x_geti C fl_X3_157 (Or.inl rfl) dX3_put_112 115 rfl hS.1 (tk_p (I := I) hI) ?_
                    refine x_icmpgeN C dX3_put_115 118 152 rfl (by decide) (by omega) (by omega) (fun _ => ?_) (fun h115 => absurd h115 (by omega))
                    refine x_iload C dX3_put_152 154 rfl rfl ?_
                    refine x_aloadr_n C dX3_put_154 155 rfl rfl ?_
                    refine x_getr C fl_X3_54 (Or.inr ⟨_, rfl⟩) dX3_put_155 158 rfl hS.1 (twR_beds hS) ?_
                    refine x_iload C dX3_put_158 160 rfl rfl ?_
                    refine x_iald C dX3_put_160 161 rfl (twA_beds hS) (twN_beds hS) rfl (by omega) (by decide) rfl ?_
                    refine x_icmplt C dX3_put_161 164 166 rfl (by decide) (fun h161 => ?_) (fun h161 => ?_)
                    · refine x_aloadr_n C dX3_put_166 167 rfl rfl ?_
                      refine x_getr C fl_X3_66 (Or.inr ⟨_, rfl⟩) dX3_put_167 170 rfl hS.1 (twR_list hS) ?_
                      refine x_bip (j := 10) C dX3_put_170 172 rfl (by decide) ?_
                      refine x_iload_n C dX3_put_172 173 rfl rfl ?_
                      refine x_imul C dX3_put_173 174 rfl (pk_mul _ _) ?_
                      refine x_iload_n C dX3_put_174 175 rfl rfl ?_
                      refine x_iadd C dX3_put_175 176 rfl (nI_add _ _) ?_
                      refine x_iald C dX3_put_176 177 rfl (twA_list hS) (twN_list hS) rfl (by omega) (by decide) rfl ?_
                      refine x_iload_n C dX3_put_177 178 rfl rfl ?_
                      refine x_icmpeq C dX3_put_178 181 193 rfl (by decide) (fun h178 => ?_) (fun h178 => ?_)
                      · refine x_aloadr_n C dX3_put_193 194 rfl rfl ?_
                        refine x_iload_n C dX3_put_194 195 rfl rfl ?_
                        refine x_iload_n C dX3_put_195 196 rfl rfl ?_
                        refine x_iload_n C dX3_put_196 197 rfl rfl ?_
                        refine x_callV C lk_X3_186 dX3_put_197 200 rfl [_, _, _] [] rfl rfl hS.1 (Nat.le_of_ble_eq_true rfl) (by decide) (Nat.le_refl _) (Nat.le_refl _) (kX3_notes hS (by omega) (by omega) (tk_n hI) (fun h => by first | omega | exact absurd h178 h)) ?_
                        rintro _ _ _ _ ⟨rfl, rfl, rfl, rfl⟩
                        refine x_ic (j := 1) C dX3_put_200 201 rfl ?_
                        exact x_zret C dX3_put_201 (Nat.le_refl _) (Nat.le_refl _) rfl (Qm_of (by simp [sp_put, putB, no0, h5, h13, et, ep, h22, h27, h36, er, h79, h88, hs, hz, h161, h178]))
                      · refine x_aloadr_n C dX3_put_181 182 rfl rfl ?_
                        refine x_geti C fl_X3_180 (Or.inl rfl) dX3_put_182 185 rfl hS.1 rfl ?_
                        refine x_sip (j := 500) C dX3_put_185 188 rfl (by decide) ?_
                        refine x_icmpne C dX3_put_188 191 193 rfl (by decide) (fun h188 => ?_) (fun h188 => ?_)
                        · have e188 : ¬ nn I = 500 := fun q => h188 (by rw [tk_n hI, q])
                          refine x_aloadr_n C dX3_put_193 194 rfl rfl ?_
                          refine x_iload_n C dX3_put_194 195 rfl rfl ?_
                          refine x_iload_n C dX3_put_195 196 rfl rfl ?_
                          refine x_iload_n C dX3_put_196 197 rfl rfl ?_
                          refine x_callV C lk_X3_186 dX3_put_197 200 rfl [_, _, _] [] rfl rfl hS.1 (Nat.le_of_ble_eq_true rfl) (by decide) (Nat.le_refl _) (Nat.le_refl _) (kX3_notes hS (by omega) (by omega) (tk_n hI) (fun h => by first | omega | exact absurd h178 h)) ?_
                          rintro _ _ _ _ ⟨rfl, rfl, rfl, rfl⟩
                          refine x_ic (j := 1) C dX3_put_200 201 rfl ?_
                          exact x_zret C dX3_put_201 (Nat.le_refl _) (Nat.le_refl _) rfl (Qm_of (by simp [sp_put, putB, no0, h5, h13, et, ep, h22, h27, h36, er, h79, h88, hs, hz, h161, h178, h188]))
                        · refine x_ic (j := 0) C dX3_put_191 192 rfl ?_
                          exact x_zret C dX3_put_192 (Nat.le_refl _) (Nat.le_refl _) rfl (Qm_of (by simp [sp_put, putB, no0, h5, h13, et, ep, h22, h27, h36, er, h79, h88, hs, hz, h161, h178, h188]))
                    · refine x_ic (j := 0) C dX3_put_164 165 rfl ?_
                      exact x_zret C dX3_put_165 (Nat.le_refl _) (Nat.le_refl _) rfl (Qm_of (by simp [sp_put, putB, no0, h5, h13, et, ep, h22, h27, h36, er, h79, h88, hs, hz, h161]))
                  | succ j ih109 =>
                    intro k c e109 h_c hz
                    refine x_iload C dX3_put_109 111 rfl rfl ?_
                    refine x_aloadr_n C dX3_put_111 112 rfl rfl ?_
                    refine x_geti C fl_X3_157 (Or.inl rfl) dX3_put_112 115 rfl hS.1 (tk_p (I := I) hI) ?_
                    refine x_icmpgeN C dX3_put_115 118 152 rfl (by decide) (by omega) (by omega) (fun h115 => absurd h115 (by omega)) (fun _ => ?_)
                    refine x_iload C dX3_put_118 120 rfl rfl ?_
                    refine x_iload C dX3_put_120 122 rfl rfl ?_
                    refine x_ishr C dX3_put_122 123 rfl (nI_shrp _ _ (by omega) (by omega)) ?_
                    refine x_ic (j := 1) C dX3_put_123 124 rfl ?_
                    refine x_iand C dX3_put_124 125 rfl (nI_bit _ _) ?_
                    refine x_ifneN C dX3_put_125 128 131 rfl (by decide) (by have := bit_lt s k; omega) (fun h125 => ?_) (fun h125 => ?_)
                    · refine x_iinc C dX3_put_131 134 rfl [_, _, _, _, _, _, _, _, _] (nI_inc _) (by decide) rfl rfl rfl ?_
                      refine x_aloadr_n C dX3_put_134 135 rfl rfl ?_
                      refine x_iload C dX3_put_135 137 rfl rfl ?_
                      refine x_iload_n C dX3_put_137 138 rfl rfl ?_
                      refine x_callV C lk_X3_201 dX3_put_138 141 rfl [_, _] [] rfl rfl hS.1 (Nat.le_of_ble_eq_true rfl) (by decide) (Nat.le_refl _) (Nat.le_refl _) (kX3_mayShare hS (by omega) (by omega)) ?_
                      rintro _ _ _ _ ⟨rfl, rfl, rfl, rfl⟩
                      refine x_ifneZ C dX3_put_141 144 146 rfl (by decide) (fun h141 => ?_) (fun h141 => ?_)
                      · refine x_iinc C dX3_put_146 149 rfl [_, _, _, _, _, _, _, _, _] (nI_inc _) (by decide) rfl rfl rfl ?_
                        refine x_goto C dX3_put_149 109 (by decide) ?_
                        exact (ih109 (k + 1) _ (by omega) (by first | (rw [cnt_f (by simpa [bit_if] using h125), h_c]) | (rw [cnt_t (by simpa [bit_if] using h125), h_c])) (by rw [cnt_f (by first | simp [ptP, h141] | simp [ptP, (bit_0 s k).mp h125]), hz]))
                      · have e141 : ¬ cnt (ptP I s p) (pn I) = 0 := cnt_ge (p := k) (by have := bit_if s k; simp [ptP, h141]; cases e : s.testBit k <;> simp_all) (by omega)
                        refine x_ic (j := 0) C dX3_put_144 145 rfl ?_
                        exact x_zret C dX3_put_145 (Nat.le_refl _) (Nat.le_refl _) rfl (Qm_of (by simp [sp_put, putB, no0, h5, h13, et, ep, h22, h27, h36, er, h79, h88, hs, h125, h141, e141]))
                    · refine x_goto C dX3_put_128 146 (by decide) ?_
                      refine x_iinc C dX3_put_146 149 rfl [_, _, _, _, _, _, _, _, _] (nI_inc _) (by decide) rfl rfl rfl ?_
                      refine x_goto C dX3_put_149 109 (by decide) ?_
                      exact (ih109 (k + 1) _ (by omega) (by first | (rw [cnt_f (by simpa [bit_if] using h125), h_c]) | (rw [cnt_t (by simpa [bit_if] using h125), h_c])) (by rw [cnt_f (by first | simp [ptP, h141] | simp [ptP, (bit_0 s k).mp h125]), hz]))
                exact hloop109 (pn I) 0 _ (Nat.zero_add _) rfl (by first | assumption | rfl)
              · refine x_aloadr_n C dX3_put_91 92 rfl rfl ?_
                refine x_getr C fl_X3_57 (Or.inr ⟨_, rfl⟩) dX3_put_92 95 rfl hS.1 (twR_lowRoom hS) ?_
                refine x_iload C dX3_put_95 97 rfl rfl ?_
                refine x_zald C dX3_put_97 98 rfl (twA_lowRoom hS) (twN_lowRoom hS) rfl (by omega) (by decide) rfl ?_
                refine x_ifne C dX3_put_98 101 103 rfl (by decide) (fun h98 => ?_) (fun h98 => ?_)
                · refine x_ic (j := 0) C dX3_put_103 104 rfl ?_
                  refine x_istore C dX3_put_104 106 rfl [_, _, _, _, _, _, _, _, _] (by decide) rfl rfl ?_
                  refine x_ic (j := 0) C dX3_put_106 107 rfl ?_
                  refine x_istore C dX3_put_107 109 rfl [_, _, _, _, _, _, _, _, _] (by decide) rfl rfl ?_
                  have hsb : nd (si I (pn I) t (nI r)) (2 ^ p) < 1024 := nd_lt (n := 10) (si_lt I t _ hp10)
                  generalize hs : nd (si I (pn I) t (nI r)) (2 ^ p) = s at *
                  have hloop109 : ∀ (j k : Nat) (c : Nat), k + j = (pn I) → c = cnt s.testBit k → cnt (ptP I s p) k = 0 → XX w κ (Zr w κ (Qm (sp_put I (nI t) (nI p) (nI r)) S J)) 0 0 109 [some (.ref 473), some (.int (nI t)), some (.int (nI p)), some (.int (nI r)), some (.int (nI (2 ^ p))), some (.int (nI s)), some (.int (nI (10 * t + r))), some (.int (nI c)), some (.int (nI k))] [] S I J := by
                    intro j
                    induction j with
                    | zero =>
                      intro k c e109 h_c hz
                      have e109 : (pn I) = k := Eq.symm e109
                      subst e109
                      subst h_c
                      have hcl := cnt_le s.testBit (pn I)
                      refine x_iload C dX3_put_109 111 rfl rfl ?_
                      refine x_aloadr_n C dX3_put_111 112 rfl rfl ?_
                      refine x_geti C fl_X3_157 (Or.inl rfl) dX3_put_112 115 rfl hS.1 (tk_p (I := I) hI) ?_
                      refine x_icmpgeN C dX3_put_115 118 152 rfl (by decide) (by omega) (by omega) (fun _ => ?_) (fun h115 => absurd h115 (by omega))
                      refine x_iload C dX3_put_152 154 rfl rfl ?_
                      refine x_aloadr_n C dX3_put_154 155 rfl rfl ?_
                      refine x_getr C fl_X3_54 (Or.inr ⟨_, rfl⟩) dX3_put_155 158 rfl hS.1 (twR_beds hS) ?_
                      refine x_iload C dX3_put_158 160 rfl rfl ?_
                      refine x_iald C dX3_put_160 161 rfl (twA_beds hS) (twN_beds hS) rfl (by omega) (by decide) rfl ?_
                      refine x_icmplt C dX3_put_161 164 166 rfl (by decide) (fun h161 => ?_) (fun h161 => ?_)
                      · refine x_aloadr_n C dX3_put_166 167 rfl rfl ?_
                        refine x_getr C fl_X3_66 (Or.inr ⟨_, rfl⟩) dX3_put_167 170 rfl hS.1 (twR_list hS) ?_
                        refine x_bip (j := 10) C dX3_put_170 172 rfl (by decide) ?_
                        refine x_iload_n C dX3_put_172 173 rfl rfl ?_
                        refine x_imul C dX3_put_173 174 rfl (pk_mul _ _) ?_
                        refine x_iload_n C dX3_put_174 175 rfl rfl ?_
                        refine x_iadd C dX3_put_175 176 rfl (nI_add _ _) ?_
                        refine x_iald C dX3_put_176 177 rfl (twA_list hS) (twN_list hS) rfl (by omega) (by decide) rfl ?_
                        refine x_iload_n C dX3_put_177 178 rfl rfl ?_
                        refine x_icmpeq C dX3_put_178 181 193 rfl (by decide) (fun h178 => ?_) (fun h178 => ?_)
                        · refine x_aloadr_n C dX3_put_193 194 rfl rfl ?_
                          refine x_iload_n C dX3_put_194 195 rfl rfl ?_
                          refine x_iload_n C dX3_put_195 196 rfl rfl ?_
                          refine x_iload_n C dX3_put_196 197 rfl rfl ?_
                          refine x_callV C lk_X3_186 dX3_put_197 200 rfl [_, _, _] [] rfl rfl hS.1 (Nat.le_of_ble_eq_true rfl) (by decide) (Nat.le_refl _) (Nat.le_refl _) (kX3_notes hS (by omega) (by omega) (tk_n hI) (fun h => by first | omega | exact absurd h178 h)) ?_
                          rintro _ _ _ _ ⟨rfl, rfl, rfl, rfl⟩
                          refine x_ic (j := 1) C dX3_put_200 201 rfl ?_
                          exact x_zret C dX3_put_201 (Nat.le_refl _) (Nat.le_refl _) rfl (Qm_of (by simp [sp_put, putB, no0, h5, h13, et, ep, h22, h27, h36, er, h79, h88, h98, hs, hz, h161, h178]))
                        · refine x_aloadr_n C dX3_put_181 182 rfl rfl ?_
                          refine x_geti C fl_X3_180 (Or.inl rfl) dX3_put_182 185 rfl hS.1 rfl ?_
                          refine x_sip (j := 500) C dX3_put_185 188 rfl (by decide) ?_
                          refine x_icmpne C dX3_put_188 191 193 rfl (by decide) (fun h188 => ?_) (fun h188 => ?_)
                          · have e188 : ¬ nn I = 500 := fun q => h188 (by rw [tk_n hI, q])
                            refine x_aloadr_n C dX3_put_193 194 rfl rfl ?_
                            refine x_iload_n C dX3_put_194 195 rfl rfl ?_
                            refine x_iload_n C dX3_put_195 196 rfl rfl ?_
                            refine x_iload_n C dX3_put_196 197 rfl rfl ?_
                            refine x_callV C lk_X3_186 dX3_put_197 200 rfl [_, _, _] [] rfl rfl hS.1 (Nat.le_of_ble_eq_true rfl) (by decide) (Nat.le_refl _) (Nat.le_refl _) (kX3_notes hS (by omega) (by omega) (tk_n hI) (fun h => by first | omega | exact absurd h178 h)) ?_
                            rintro _ _ _ _ ⟨rfl, rfl, rfl, rfl⟩
                            refine x_ic (j := 1) C dX3_put_200 201 rfl ?_
                            exact x_zret C dX3_put_201 (Nat.le_refl _) (Nat.le_refl _) rfl (Qm_of (by simp [sp_put, putB, no0, h5, h13, et, ep, h22, h27, h36, er, h79, h88, h98, hs, hz, h161, h178, h188]))
                          · refine x_ic (j := 0) C dX3_put_191 192 rfl ?_
                            exact x_zret C dX3_put_192 (Nat.le_refl _) (Nat.le_refl _) rfl (Qm_of (by simp [sp_put, putB, no0, h5, h13, et, ep, h22, h27, h36, er, h79, h88, h98, hs, hz, h161, h178, h188]))
                      · refine x_ic (j := 0) C dX3_put_164 165 rfl ?_
                        exact x_zret C dX3_put_165 (Nat.le_refl _) (Nat.le_refl _) rfl (Qm_of (by simp [sp_put, putB, no0, h5, h13, et, ep, h22, h27, h36, er, h79, h88, h98, hs, hz, h161]))
                    | succ j ih109 =>
                      intro k c e109 h_c hz
                      refine x_iload C dX3_put_109 111 rfl rfl ?_
                      refine x_aloadr_n C dX3_put_111 112 rfl rfl ?_
                      refine x_geti C fl_X3_157 (Or.inl rfl) dX3_put_112 115 rfl hS.1 (tk_p (I := I) hI) ?_
                      refine x_icmpgeN C dX3_put_115 118 152 rfl (by decide) (by omega) (by omega) (fun h115 => absurd h115 (by omega)) (fun _ => ?_)
                      refine x_iload C dX3_put_118 120 rfl rfl ?_
                      refine x_iload C dX3_put_120 122 rfl rfl ?_
                      refine x_ishr C dX3_put_122 123 rfl (nI_shrp _ _ (by omega) (by omega)) ?_
                      refine x_ic (j := 1) C dX3_put_123 124 rfl ?_
                      refine x_iand C dX3_put_124 125 rfl (nI_bit _ _) ?_
                      refine x_ifneN C dX3_put_125 128 131 rfl (by decide) (by have := bit_lt s k; omega) (fun h125 => ?_) (fun h125 => ?_)
                      · refine x_iinc C dX3_put_131 134 rfl [_, _, _, _, _, _, _, _, _] (nI_inc _) (by decide) rfl rfl rfl ?_
                        refine x_aloadr_n C dX3_put_134 135 rfl rfl ?_
                        refine x_iload C dX3_put_135 137 rfl rfl ?_
                        refine x_iload_n C dX3_put_137 138 rfl rfl ?_
                        refine x_callV C lk_X3_201 dX3_put_138 141 rfl [_, _] [] rfl rfl hS.1 (Nat.le_of_ble_eq_true rfl) (by decide) (Nat.le_refl _) (Nat.le_refl _) (kX3_mayShare hS (by omega) (by omega)) ?_
                        rintro _ _ _ _ ⟨rfl, rfl, rfl, rfl⟩
                        refine x_ifneZ C dX3_put_141 144 146 rfl (by decide) (fun h141 => ?_) (fun h141 => ?_)
                        · refine x_iinc C dX3_put_146 149 rfl [_, _, _, _, _, _, _, _, _] (nI_inc _) (by decide) rfl rfl rfl ?_
                          refine x_goto C dX3_put_149 109 (by decide) ?_
                          exact (ih109 (k + 1) _ (by omega) (by first | (rw [cnt_f (by simpa [bit_if] using h125), h_c]) | (rw [cnt_t (by simpa [bit_if] using h125), h_c])) (by rw [cnt_f (by first | simp [ptP, h141] | simp [ptP, (bit_0 s k).mp h125]), hz]))
                        · have e141 : ¬ cnt (ptP I s p) (pn I) = 0 := cnt_ge (p := k) (by have := bit_if s k; simp [ptP, h141]; cases e : s.testBit k <;> simp_all) (by omega)
                          refine x_ic (j := 0) C dX3_put_144 145 rfl ?_
                          exact x_zret C dX3_put_145 (Nat.le_refl _) (Nat.le_refl _) rfl (Qm_of (by simp [sp_put, putB, no0, h5, h13, et, ep, h22, h27, h36, er, h79, h88, h98, hs, h125, h141, e141]))
                      · refine x_goto C dX3_put_128 146 (by decide) ?_
                        refine x_iinc C dX3_put_146 149 rfl [_, _, _, _, _, _, _, _, _] (nI_inc _) (by decide) rfl rfl rfl ?_
                        refine x_goto C dX3_put_149 109 (by decide) ?_
                        exact (ih109 (k + 1) _ (by omega) (by first | (rw [cnt_f (by simpa [bit_if] using h125), h_c]) | (rw [cnt_t (by simpa [bit_if] using h125), h_c])) (by rw [cnt_f (by first | simp [ptP, h141] | simp [ptP, (bit_0 s k).mp h125]), hz]))
                  exact hloop109 (pn I) 0 _ (Nat.zero_add _) rfl (by first | assumption | rfl)
                · refine x_ic (j := 0) C dX3_put_101 102 rfl ?_
                  exact x_zret C dX3_put_102 (Nat.le_refl _) (Nat.le_refl _) rfl (Qm_of (by simp [sp_put, putB, no0, h5, h13, et, ep, h22, h27, h36, er, h79, h88, h98]))
          · refine x_ic (j := 0) C dX3_put_39 40 rfl ?_
            exact x_zret C dX3_put_40 (Nat.le_refl _) (Nat.le_refl _) rfl (Qm_of (by simp [sp_put, putB, no0, h5, h13, et, ep, h22, h27, h36]))
theorem kX3_right (hS : twS S) (hI : Tok I) {t : Int32} : Ct w l yX3_right cX3_right 3 (some .boolean) 3 0 0 [.ref 473, .int t] S I J (Qe (some (.int (bz (sp_right I t)))) S I J) := by
  refine Ct.of [some _, some _, none] rfl (Nat.le_of_ble_eq_true rfl) (by decide) ?_
  intro κ hκ C
  subst hκ
  have hp10 := tk_p2 hI
  have ht6 := tk_t2 hI
  have hg30 := tk_g2 hI
  have hc30 := tk_c2 hI
  have hn500 := tk_n2 hI
  refine x_aloadr_n C dX3_right_0 1 rfl rfl ?_
  refine x_iload_n C dX3_right_1 2 rfl rfl ?_
  refine x_callV C lk_X3_170 dX3_right_2 5 rfl [_] [] rfl rfl hS.1 (Nat.le_of_ble_eq_true rfl) (by decide) (Nat.le_refl _) (Nat.le_refl _) (kX3_isTown hS) ?_
  rintro _ _ _ _ ⟨rfl, rfl, rfl, rfl⟩
  refine x_ifneZ C dX3_right_5 8 10 rfl (by decide) (fun h5 => ?_) (fun h5 => ?_)
  · obtain ⟨t, ht, rfl⟩ := to_I hI h5
    have et : nt (nI t) = t := nt_nI (by omega)
    have hrn := tk_r2 hI (show t < 6 by omega)
    refine x_ic (j := 0) C dX3_right_10 11 rfl ?_
    refine x_istore_n C dX3_right_11 12 rfl [_, _, _] (by decide) rfl rfl ?_
    have hloop12 : ∀ (j p : Nat), p + j = (pn I) → cnt (fun p => thB I p (nI t) && decide (I 490 (10 * t + p) = -1)) p = 0 → XX w κ (Zr w κ (Qe (some (.int (bz (sp_right I (nI t))))) S I J)) 0 0 12 [some (.ref 473), some (.int (nI t)), some (.int (nI p))] [] S I J := by
      intro j
      induction j with
      | zero =>
        intro p  e12  hz
        have e12 : (pn I) = p := Eq.symm e12
        subst e12
        refine x_iload_n C dX3_right_12 13 rfl rfl ?_
        refine x_aloadr_n C dX3_right_13 14 rfl rfl ?_
        refine x_geti C fl_X3_157 (Or.inl rfl) dX3_right_14 17 rfl hS.1 (tk_p (I := I) hI) ?_
        refine x_icmpgeN C dX3_right_17 20 52 rfl (by decide) (by omega) (by omega) (fun _ => ?_) (fun h17 => absurd h17 (by omega))
        refine x_ic (j := 0) C dX3_right_52 53 rfl ?_
        refine x_istore_n C dX3_right_53 54 rfl [_, _, _] (by decide) rfl rfl ?_
        have hloop54 : ∀ (j r : Nat), r + j = (rn I t) → cnt (fun r => !mbB I (10 * t + r) (si I (pn I) t (nI r)) (pn I)) r = 0 → XX w κ (Zr w κ (Qe (some (.int (bz (sp_right I (nI t))))) S I J)) 0 0 54 [some (.ref 473), some (.int (nI t)), some (.int (nI r))] [] S I J := by
          intro j
          induction j with
          | zero =>
            intro r  e54  hy
            have e54 : (rn I t) = r := Eq.symm e54
            subst e54
            refine x_iload_n C dX3_right_54 55 rfl rfl ?_
            refine x_aloadr_n C dX3_right_55 56 rfl rfl ?_
            refine x_getr C fl_X3_51 (Or.inr ⟨_, rfl⟩) dX3_right_56 59 rfl hS.1 (twR_rooms hS) ?_
            refine x_iload_n C dX3_right_59 60 rfl rfl ?_
            refine x_iald C dX3_right_60 61 rfl (twA_rooms hS) (twN_rooms hS) rfl (by omega) (by decide) (tk_r hI (by omega)) ?_
            refine x_icmpgeN C dX3_right_61 64 87 rfl (by decide) (by omega) (by omega) (fun _ => ?_) (fun h61 => absurd h61 (by omega))
            refine x_ic (j := 1) C dX3_right_87 88 rfl ?_
            exact x_zret C dX3_right_88 (Nat.le_refl _) (Nat.le_refl _) rfl (Qz_of (by simp [sp_right, riB, bzt, bzf, h5, et, hz, hy]))
          | succ j ih54 =>
            intro r  e54  hy
            refine x_iload_n C dX3_right_54 55 rfl rfl ?_
            refine x_aloadr_n C dX3_right_55 56 rfl rfl ?_
            refine x_getr C fl_X3_51 (Or.inr ⟨_, rfl⟩) dX3_right_56 59 rfl hS.1 (twR_rooms hS) ?_
            refine x_iload_n C dX3_right_59 60 rfl rfl ?_
            refine x_iald C dX3_right_60 61 rfl (twA_rooms hS) (twN_rooms hS) rfl (by omega) (by decide) (tk_r hI (by omega)) ?_
            refine x_icmpgeN C dX3_right_61 64 87 rfl (by decide) (by omega) (by omega) (fun h61 => absurd h61 (by omega)) (fun _ => ?_)
            refine x_aloadr_n C dX3_right_64 65 rfl rfl ?_
            refine x_iload_n C dX3_right_65 66 rfl rfl ?_
            refine x_iload_n C dX3_right_66 67 rfl rfl ?_
            refine x_aloadr_n C dX3_right_67 68 rfl rfl ?_
            refine x_iload_n C dX3_right_68 69 rfl rfl ?_
            refine x_iload_n C dX3_right_69 70 rfl rfl ?_
            refine x_callV C lk_X3_211 dX3_right_70 73 rfl [_, _] [_, _, _] rfl rfl hS.1 (Nat.le_of_ble_eq_true rfl) (by decide) (Nat.le_refl _) (Nat.le_refl _) (kX3_setIn hS (tk_p hI) (tk_p2 hI) (by omega)) ?_
            rintro _ _ _ _ ⟨rfl, rfl, rfl, rfl⟩
            refine x_callV C lk_X3_219 dX3_right_73 76 rfl [_, _, _] [] rfl rfl hS.1 (Nat.le_of_ble_eq_true rfl) (by decide) (Nat.le_refl _) (Nat.le_refl _) (kX3_mayBe hS hI (by omega) (by omega) (Nat.lt_of_lt_of_le (si_lt I t _ hp10) (by decide))) ?_
            rintro _ _ _ _ ⟨rfl, rfl, rfl, rfl⟩
            refine x_ifneZ C dX3_right_76 79 81 rfl (by decide) (fun h76 => ?_) (fun h76 => ?_)
            · refine x_iinc C dX3_right_81 84 rfl [_, _, _] (nI_inc _) (by decide) rfl rfl rfl ?_
              refine x_goto C dX3_right_84 54 (by decide) ?_
              exact (ih54 (r + 1) (by omega) (by rw [cnt_f (by simp [h76]), hy]))
            · have e76 : ¬ cnt (fun r => !mbB I (10 * t + r) (si I (pn I) t (nI r)) (pn I)) (rn I t) = 0 := cnt_ge (p := r) (by simp [h76]) (by omega)
              refine x_ic (j := 0) C dX3_right_79 80 rfl ?_
              exact x_zret C dX3_right_80 (Nat.le_refl _) (Nat.le_refl _) rfl (Qz_of (by simp [sp_right, riB, bzt, bzf, h5, et, hz, h76, e76]))
        exact hloop54 (rn I t) 0 (Nat.zero_add _) (by first | assumption | rfl)
      | succ j ih12 =>
        intro p  e12  hz
        refine x_iload_n C dX3_right_12 13 rfl rfl ?_
        refine x_aloadr_n C dX3_right_13 14 rfl rfl ?_
        refine x_geti C fl_X3_157 (Or.inl rfl) dX3_right_14 17 rfl hS.1 (tk_p (I := I) hI) ?_
        refine x_icmpgeN C dX3_right_17 20 52 rfl (by decide) (by omega) (by omega) (fun h17 => absurd h17 (by omega)) (fun _ => ?_)
        refine x_aloadr_n C dX3_right_20 21 rfl rfl ?_
        refine x_iload_n C dX3_right_21 22 rfl rfl ?_
        refine x_iload_n C dX3_right_22 23 rfl rfl ?_
        refine x_callV C lk_X3_205 dX3_right_23 26 rfl [_, _] [] rfl rfl hS.1 (Nat.le_of_ble_eq_true rfl) (by decide) (Nat.le_refl _) (Nat.le_refl _) (kX3_isThere hS (by omega)) ?_
        rintro _ _ _ _ ⟨rfl, rfl, rfl, rfl⟩
        refine x_ifeqZ C dX3_right_26 29 46 rfl (by decide) (fun h26 => ?_) (fun h26 => ?_)
        · refine x_iinc C dX3_right_46 49 rfl [_, _, _] (nI_inc _) (by decide) rfl rfl rfl ?_
          refine x_goto C dX3_right_49 12 (by decide) ?_
          exact (ih12 (p + 1) (by omega) (by rw [cnt_f (by simp [h5, et, h26]), hz]))
        · refine x_aloadr_n C dX3_right_29 30 rfl rfl ?_
          refine x_getr C fl_X3_66 (Or.inr ⟨_, rfl⟩) dX3_right_30 33 rfl hS.1 (twR_list hS) ?_
          refine x_bip (j := 10) C dX3_right_33 35 rfl (by decide) ?_
          refine x_iload_n C dX3_right_35 36 rfl rfl ?_
          refine x_imul C dX3_right_36 37 rfl (pk_mul _ _) ?_
          refine x_iload_n C dX3_right_37 38 rfl rfl ?_
          refine x_iadd C dX3_right_38 39 rfl (nI_add _ _) ?_
          refine x_iald C dX3_right_39 40 rfl (twA_list hS) (twN_list hS) rfl (by omega) (by decide) rfl ?_
          refine x_icm C dX3_right_40 41 rfl ?_
          refine x_icmpne C dX3_right_41 44 46 rfl (by decide) (fun h41 => ?_) (fun h41 => ?_)
          · refine x_iinc C dX3_right_46 49 rfl [_, _, _] (nI_inc _) (by decide) rfl rfl rfl ?_
            refine x_goto C dX3_right_49 12 (by decide) ?_
            exact (ih12 (p + 1) (by omega) (by rw [cnt_f (by simp [h5, et, h26, h41]), hz]))
          · have e41 : ¬ cnt (fun p => thB I p (nI t) && decide (I 490 (10 * t + p) = -1)) (pn I) = 0 := cnt_ge (p := p) (by simp [h26, h41]) (by omega)
            refine x_ic (j := 0) C dX3_right_44 45 rfl ?_
            exact x_zret C dX3_right_45 (Nat.le_refl _) (Nat.le_refl _) rfl (Qz_of (by simp [sp_right, riB, bzt, bzf, h5, et, h26, h41, e41]))
    exact hloop12 (pn I) 0 (Nat.zero_add _) (by first | assumption | rfl)
  · refine x_ic (j := 0) C dX3_right_8 9 rfl ?_
    exact x_zret C dX3_right_9 (Nat.le_refl _) (Nat.le_refl _) rfl (Qz_of (by simp [sp_right, bzt, bzf, h5]))
theorem kX3_listed (hS : twS S) (hI : Tok I) {t p d : Int32} : Ct w l yX3_listed cX3_listed 6 (some .int) 3 0 0 [.ref 473, .int t, .int p, .int d] S I J (Qe (some (.int (sp_listed I t p d))) S I J) := by
  refine Ct.of [some _, some _, some _, some _, none, none] rfl (Nat.le_of_ble_eq_true rfl) (by decide) ?_
  intro κ hκ C
  subst hκ
  have hp10 := tk_p2 hI
  have ht6 := tk_t2 hI
  have hg30 := tk_g2 hI
  have hc30 := tk_c2 hI
  have hn500 := tk_n2 hI
  refine x_aloadr_n C dX3_listed_0 1 rfl rfl ?_
  refine x_iload_n C dX3_listed_1 2 rfl rfl ?_
  refine x_callV C lk_X3_170 dX3_listed_2 5 rfl [_] [] rfl rfl hS.1 (Nat.le_of_ble_eq_true rfl) (by decide) (Nat.le_refl _) (Nat.le_refl _) (kX3_isTown hS) ?_
  rintro _ _ _ _ ⟨rfl, rfl, rfl, rfl⟩
  refine x_ifeqZ C dX3_listed_5 8 28 rfl (by decide) (fun h5 => ?_) (fun h5 => ?_)
  · refine x_icm C dX3_listed_28 29 rfl ?_
    exact x_iret C dX3_listed_29 (Nat.le_refl _) (Nat.le_refl _) (Qe_of (by simp [sp_listed, h5]))
  · refine x_aloadr_n C dX3_listed_8 9 rfl rfl ?_
    refine x_iload_n C dX3_listed_9 10 rfl rfl ?_
    refine x_callV C lk_X3_177 dX3_listed_10 13 rfl [_] [] rfl rfl hS.1 (Nat.le_of_ble_eq_true rfl) (by decide) (Nat.le_refl _) (Nat.le_refl _) (kX3_isPerson hS) ?_
    rintro _ _ _ _ ⟨rfl, rfl, rfl, rfl⟩
    refine x_ifeqZ C dX3_listed_13 16 28 rfl (by decide) (fun h13 => ?_) (fun h13 => ?_)
    · refine x_icm C dX3_listed_28 29 rfl ?_
      exact x_iret C dX3_listed_29 (Nat.le_refl _) (Nat.le_refl _) (Qe_of (by simp [sp_listed, h5, h13]))
    · obtain ⟨t, ht, rfl⟩ := to_I hI h5
      obtain ⟨p, hp, rfl⟩ := pe_I hI h13
      have et : nt (nI t) = t := nt_nI (by omega)
      have ep : nt (nI p) = p := nt_nI (by omega)
      refine x_iload_n C dX3_listed_16 17 rfl rfl ?_
      refine x_ic (j := 0) C dX3_listed_17 18 rfl ?_
      refine x_aloadr_n C dX3_listed_18 19 rfl rfl ?_
      refine x_geti C fl_X3_183 (Or.inl rfl) dX3_listed_19 22 rfl hS.1 rfl ?_
      refine x_callS C lk_X3_160 dX3_listed_22 25 rfl [_, _, _] [] rfl rfl (Nat.le_of_ble_eq_true rfl) (by decide) (Nat.le_refl _) (Nat.le_refl _) kX3_in ?_
      rintro _ _ _ _ ⟨rfl, rfl, rfl, rfl⟩
      refine x_ifneZ C dX3_listed_25 28 30 rfl (by decide) (fun h25 => ?_) (fun h25 => ?_)
      · refine x_icm C dX3_listed_30 31 rfl ?_
        refine x_istore C dX3_listed_31 33 rfl [_, _, _, _, _, _] (by decide) rfl rfl ?_
        refine x_ic (j := 0) C dX3_listed_33 34 rfl ?_
        refine x_istore C dX3_listed_34 36 rfl [_, _, _, _, _, _] (by decide) rfl rfl ?_
        have hloop36 : ∀ (j k : Nat) (v : Int32), k + j = (nn I) → v = lsN I (10 * t + p) d k → XX w κ (Zr w κ (Qe (some (.int (sp_listed I (nI t) (nI p) d))) S I J)) 0 0 36 [some (.ref 473), some (.int (nI t)), some (.int (nI p)), some (.int d), some (.int v), some (.int (nI k))] [] S I J := by
          intro j
          induction j with
          | zero =>
            intro k v e36 h_v
            have e36 : (nn I) = k := Eq.symm e36
            subst e36
            subst h_v
            refine x_iload C dX3_listed_36 38 rfl rfl ?_
            refine x_aloadr_n C dX3_listed_38 39 rfl rfl ?_
            refine x_geti C fl_X3_180 (Or.inl rfl) dX3_listed_39 42 rfl hS.1 (tk_n (I := I) hI) ?_
            refine x_icmpgeN C dX3_listed_42 45 87 rfl (by decide) (by omega) (by omega) (fun _ => ?_) (fun h42 => absurd h42 (by omega))
            refine x_iload C dX3_listed_87 89 rfl rfl ?_
            exact x_iret C dX3_listed_89 (Nat.le_refl _) (Nat.le_refl _) (Qe_of (by simp [sp_listed, h5, h13, et, ep, h25]))
          | succ j ih36 =>
            intro k v e36 h_v
            rw [h_v]
            refine x_iload C dX3_listed_36 38 rfl rfl ?_
            refine x_aloadr_n C dX3_listed_38 39 rfl rfl ?_
            refine x_geti C fl_X3_180 (Or.inl rfl) dX3_listed_39 42 rfl hS.1 (tk_n (I := I) hI) ?_
            refine x_icmpgeN C dX3_listed_42 45 87 rfl (by decide) (by omega) (by omega) (fun h42 => absurd h42 (by omega)) (fun _ => ?_)
            refine x_aloadr_n C dX3_listed_45 46 rfl rfl ?_
            refine x_getr C fl_X3_72 (Or.inr ⟨_, rfl⟩) dX3_listed_46 49 rfl hS.1 (twR_notePlace hS) ?_
            refine x_iload C dX3_listed_49 51 rfl rfl ?_
            refine x_iald C dX3_listed_51 52 rfl (twA_notePlace hS) (twN_notePlace hS) rfl (by omega) (by decide) rfl ?_
            refine x_bip (j := 10) C dX3_listed_52 54 rfl (by decide) ?_
            refine x_iload_n C dX3_listed_54 55 rfl rfl ?_
            refine x_imul C dX3_listed_55 56 rfl (pk_mul _ _) ?_
            refine x_iload_n C dX3_listed_56 57 rfl rfl ?_
            refine x_iadd C dX3_listed_57 58 rfl (nI_add _ _) ?_
            refine x_icmpne C dX3_listed_58 61 81 rfl (by decide) (fun h58 => ?_) (fun h58 => ?_)
            · refine x_iinc C dX3_listed_81 84 rfl [_, _, _, _, _, _] (nI_inc _) (by decide) rfl rfl rfl ?_
              refine x_goto C dX3_listed_84 36 (by decide) ?_
              exact (ih36 (k + 1) _ (by omega) (by simp [lsN, h5, h13, et, ep, h25, h58]))
            · refine x_aloadr_n C dX3_listed_61 62 rfl rfl ?_
              refine x_getr C fl_X3_69 (Or.inr ⟨_, rfl⟩) dX3_listed_62 65 rfl hS.1 (twR_noteDay hS) ?_
              refine x_iload C dX3_listed_65 67 rfl rfl ?_
              refine x_iald C dX3_listed_67 68 rfl (twA_noteDay hS) (twN_noteDay hS) rfl (by omega) (by decide) rfl ?_
              refine x_iload_n C dX3_listed_68 69 rfl rfl ?_
              refine x_icmpgt C dX3_listed_69 72 81 rfl (by decide) (fun h69 => ?_) (fun h69 => ?_)
              · refine x_iinc C dX3_listed_81 84 rfl [_, _, _, _, _, _] (nI_inc _) (by decide) rfl rfl rfl ?_
                refine x_goto C dX3_listed_84 36 (by decide) ?_
                exact (ih36 (k + 1) _ (by omega) (by simp [lsN, h5, h13, et, ep, h25, h58, h69]))
              · refine x_aloadr_n C dX3_listed_72 73 rfl rfl ?_
                refine x_getr C fl_X3_75 (Or.inr ⟨_, rfl⟩) dX3_listed_73 76 rfl hS.1 (twR_noteRoom hS) ?_
                refine x_iload C dX3_listed_76 78 rfl rfl ?_
                refine x_iald C dX3_listed_78 79 rfl (twA_noteRoom hS) (twN_noteRoom hS) rfl (by omega) (by decide) rfl ?_
                refine x_istore C dX3_listed_79 81 rfl [_, _, _, _, _, _] (by decide) rfl rfl ?_
                refine x_iinc C dX3_listed_81 84 rfl [_, _, _, _, _, _] (nI_inc _) (by decide) rfl rfl rfl ?_
                refine x_goto C dX3_listed_84 36 (by decide) ?_
                exact (ih36 (k + 1) _ (by omega) (by simp [lsN, h5, h13, et, ep, h25, h58, h69]))
        exact hloop36 (nn I) 0 _ (Nat.zero_add _) rfl
      · refine x_icm C dX3_listed_28 29 rfl ?_
        exact x_iret C dX3_listed_29 (Nat.le_refl _) (Nat.le_refl _) (Qe_of (by simp [sp_listed, h5, h13, et, ep, h25]))
theorem kX3_lay (hS : twS S) (hI : Tok I) {k p : Int32} : Ct w l yX3_lay cX3_lay 3 (some .int) 3 0 0 [.ref 473, .int k, .int p] S I J (Qe (some (.int (sp_lay I k p))) S I J) := by
  refine Ct.of [some _, some _, some _] rfl (Nat.le_of_ble_eq_true rfl) (by decide) ?_
  intro κ hκ C
  subst hκ
  have hp10 := tk_p2 hI
  have ht6 := tk_t2 hI
  have hg30 := tk_g2 hI
  have hc30 := tk_c2 hI
  have hn500 := tk_n2 hI
  refine x_iload_n C dX3_lay_0 1 rfl rfl ?_
  refine x_ic (j := 0) C dX3_lay_1 2 rfl ?_
  refine x_aloadr_n C dX3_lay_2 3 rfl rfl ?_
  refine x_geti C fl_X3_167 (Or.inl rfl) dX3_lay_3 6 rfl hS.1 rfl ?_
  refine x_ic (j := 1) C dX3_lay_6 7 rfl ?_
  refine x_isub C dX3_lay_7 8 rfl rfl ?_
  refine x_callS C lk_X3_160 dX3_lay_8 11 rfl [_, _, _] [] rfl rfl (Nat.le_of_ble_eq_true rfl) (by decide) (Nat.le_refl _) (Nat.le_refl _) kX3_in ?_
  rintro _ _ _ _ ⟨rfl, rfl, rfl, rfl⟩
  refine x_ifeqZ C dX3_lay_11 14 36 rfl (by decide) (fun h11 => ?_) (fun h11 => ?_)
  · refine x_icm C dX3_lay_36 37 rfl ?_
    exact x_iret C dX3_lay_37 (Nat.le_refl _) (Nat.le_refl _) (Qe_of (by simp [sp_lay, h11]))
  · refine x_aloadr_n C dX3_lay_14 15 rfl rfl ?_
    refine x_iload_n C dX3_lay_15 16 rfl rfl ?_
    refine x_callV C lk_X3_177 dX3_lay_16 19 rfl [_] [] rfl rfl hS.1 (Nat.le_of_ble_eq_true rfl) (by decide) (Nat.le_refl _) (Nat.le_refl _) (kX3_isPerson hS) ?_
    rintro _ _ _ _ ⟨rfl, rfl, rfl, rfl⟩
    refine x_ifeqZ C dX3_lay_19 22 36 rfl (by decide) (fun h19 => ?_) (fun h19 => ?_)
    · refine x_icm C dX3_lay_36 37 rfl ?_
      exact x_iret C dX3_lay_37 (Nat.le_refl _) (Nat.le_refl _) (Qe_of (by simp [sp_lay, h11, h19]))
    · obtain ⟨k, hk, rfl⟩ := in_of (m := cl I) (by rw [← tk_c hI]; exact h11) (by omega)
      obtain ⟨p, hp, rfl⟩ := pe_I hI h19
      have ek : nt (nI k) = k := nt_nI (by omega)
      have ep : nt (nI p) = p := nt_nI (by omega)
      refine x_aloadr_n C dX3_lay_22 23 rfl rfl ?_
      refine x_getr C fl_X3_81 (Or.inr ⟨_, rfl⟩) dX3_lay_23 26 rfl hS.1 (twR_lay hS) ?_
      refine x_bip (j := 10) C dX3_lay_26 28 rfl (by decide) ?_
      refine x_iload_n C dX3_lay_28 29 rfl rfl ?_
      refine x_imul C dX3_lay_29 30 rfl (pk_mul _ _) ?_
      refine x_iload_n C dX3_lay_30 31 rfl rfl ?_
      refine x_iadd C dX3_lay_31 32 rfl (nI_add _ _) ?_
      refine x_iald C dX3_lay_32 33 rfl (twA_lay hS) (twN_lay hS) rfl (by omega) (by decide) rfl ?_
      refine x_goto C dX3_lay_33 37 (by decide) ?_
      exact x_iret C dX3_lay_37 (Nat.le_refl _) (Nat.le_refl _) (Qe_of (by simp [sp_lay, h11, h19, ek, ep]))
theorem kX3_bill (hS : twS S) (hI : Tok I) {k : Int32} : Ct w l yX3_bill cX3_bill 2 (some .int) 2 0 0 [.ref 473, .int k] S I J (Qm (sp_bill I k) S J) := by
  refine Ct.of [some _, some _] rfl (Nat.le_of_ble_eq_true rfl) (by decide) ?_
  intro κ hκ C
  subst hκ
  have hp10 := tk_p2 hI
  have ht6 := tk_t2 hI
  have hg30 := tk_g2 hI
  have hc30 := tk_c2 hI
  have hn500 := tk_n2 hI
  refine x_aloadr_n C dX3_bill_0 1 rfl rfl ?_
  refine x_iload_n C dX3_bill_1 2 rfl rfl ?_
  refine x_ic (j := 0) C dX3_bill_2 3 rfl ?_
  refine x_aloadr_n C dX3_bill_3 4 rfl rfl ?_
  refine x_geti C fl_X3_167 (Or.inl rfl) dX3_bill_4 7 rfl hS.1 rfl ?_
  refine x_ic (j := 1) C dX3_bill_7 8 rfl ?_
  refine x_isub C dX3_bill_8 9 rfl rfl ?_
  refine x_callS C lk_X3_160 dX3_bill_9 12 rfl [_, _, _] [_] rfl rfl (Nat.le_of_ble_eq_true rfl) (by decide) (Nat.le_refl _) (Nat.le_refl _) kX3_in ?_
  rintro _ _ _ _ ⟨rfl, rfl, rfl, rfl⟩
  refine x_ifeqZ C dX3_bill_12 15 19 rfl (by decide) (fun h12 => ?_) (fun h12 => ?_)
  · refine x_ic (j := 1) C dX3_bill_19 20 rfl ?_
    refine x_puti C fl_X3_1 (Or.inl rfl) (Or.inl rfl) dX3_bill_20 23 rfl hS.1 ?_
    refine x_aloadr_n C dX3_bill_23 24 rfl rfl ?_
    refine x_geti C fl_X3_1 (Or.inl rfl) dX3_bill_24 27 rfl hS.1 (sto_ss _ _ _ _) ?_
    refine x_ifne C dX3_bill_27 30 39 rfl (by decide) (fun _ => ?_) (fun h27 => absurd h27 (by decide))
    refine x_ic (j := 0) C dX3_bill_39 40 rfl ?_
    exact x_iret C dX3_bill_40 (Nat.le_refl _) (Nat.le_refl _) (Qm_of (by simp [sp_bill, sto_at, h12]))
  · refine x_ic (j := 0) C dX3_bill_15 16 rfl ?_
    refine x_goto C dX3_bill_16 20 (by decide) ?_
    refine x_puti C fl_X3_1 (Or.inl rfl) (Or.inl rfl) dX3_bill_20 23 rfl hS.1 ?_
    refine x_aloadr_n C dX3_bill_23 24 rfl rfl ?_
    refine x_geti C fl_X3_1 (Or.inl rfl) dX3_bill_24 27 rfl hS.1 (sto_ss _ _ _ _) ?_
    refine x_ifne C dX3_bill_27 30 39 rfl (by decide) (fun h27 => absurd h27 (by decide)) (fun _ => ?_)
    obtain ⟨k, hk, rfl⟩ := in_of (m := cl I) (by rw [← tk_c hI]; exact h12) (by omega)
    have ek : nt (nI k) = k := nt_nI (by omega)
    refine x_aloadr_n C dX3_bill_30 31 rfl rfl ?_
    refine x_getr C fl_X3_84 (Or.inr ⟨_, rfl⟩) dX3_bill_31 34 rfl hS.1 (twR_bills hS) ?_
    refine x_iload_n C dX3_bill_34 35 rfl rfl ?_
    refine x_iald C dX3_bill_35 36 rfl (twA_bills hS) (twN_bills hS) rfl (by omega) (by decide) rfl ?_
    refine x_goto C dX3_bill_36 40 (by decide) ?_
    exact x_iret C dX3_bill_40 (Nat.le_refl _) (Nat.le_refl _) (Qm_of (by simp [sp_bill, sto_at, h12, ek]))
theorem kX3_owes_2 (hS : twS S) (hI : Tok I) {k : Int32} : Ct w l yX3_owes_2 cX3_owes_2 2 (some .int) 3 0 0 [.ref 473, .int k] S I J (Qm (sp_owes I k) S J) := by
  refine Ct.of [some _, some _] rfl (Nat.le_of_ble_eq_true rfl) (by decide) ?_
  intro κ hκ C
  subst hκ
  have hp10 := tk_p2 hI
  have ht6 := tk_t2 hI
  have hg30 := tk_g2 hI
  have hc30 := tk_c2 hI
  have hn500 := tk_n2 hI
  refine x_aloadr_n C dX3_owes_2_0 1 rfl rfl ?_
  refine x_aloadr_n C dX3_owes_2_1 2 rfl rfl ?_
  refine x_iload_n C dX3_owes_2_2 3 rfl rfl ?_
  refine x_callV C lk_X3_177 dX3_owes_2_3 6 rfl [_] [_] rfl rfl hS.1 (Nat.le_of_ble_eq_true rfl) (by decide) (Nat.le_refl _) (Nat.le_refl _) (kX3_isPerson hS) ?_
  rintro _ _ _ _ ⟨rfl, rfl, rfl, rfl⟩
  refine x_ifeqZ C dX3_owes_2_6 9 13 rfl (by decide) (fun h6 => ?_) (fun h6 => ?_)
  · refine x_ic (j := 1) C dX3_owes_2_13 14 rfl ?_
    refine x_puti C fl_X3_1 (Or.inl rfl) (Or.inl rfl) dX3_owes_2_14 17 rfl hS.1 ?_
    refine x_aloadr_n C dX3_owes_2_17 18 rfl rfl ?_
    refine x_geti C fl_X3_1 (Or.inl rfl) dX3_owes_2_18 21 rfl hS.1 (sto_ss _ _ _ _) ?_
    refine x_ifne C dX3_owes_2_21 24 33 rfl (by decide) (fun _ => ?_) (fun h21 => absurd h21 (by decide))
    refine x_ic (j := 0) C dX3_owes_2_33 34 rfl ?_
    exact x_iret C dX3_owes_2_34 (Nat.le_refl _) (Nat.le_refl _) (Qm_of (by simp [sp_owes, sto_at, h6]))
  · refine x_ic (j := 0) C dX3_owes_2_9 10 rfl ?_
    refine x_goto C dX3_owes_2_10 14 (by decide) ?_
    refine x_puti C fl_X3_1 (Or.inl rfl) (Or.inl rfl) dX3_owes_2_14 17 rfl hS.1 ?_
    refine x_aloadr_n C dX3_owes_2_17 18 rfl rfl ?_
    refine x_geti C fl_X3_1 (Or.inl rfl) dX3_owes_2_18 21 rfl hS.1 (sto_ss _ _ _ _) ?_
    refine x_ifne C dX3_owes_2_21 24 33 rfl (by decide) (fun h21 => absurd h21 (by decide)) (fun _ => ?_)
    obtain ⟨k, hk, rfl⟩ := pe_I hI h6
    have ek : nt (nI k) = k := nt_nI (by omega)
    refine x_aloadr_n C dX3_owes_2_24 25 rfl rfl ?_
    refine x_getr C fl_X3_87 (Or.inr ⟨_, rfl⟩) dX3_owes_2_25 28 rfl hS.1 (twR_owed hS) ?_
    refine x_iload_n C dX3_owes_2_28 29 rfl rfl ?_
    refine x_iald C dX3_owes_2_29 30 rfl (twA_owed hS) (twN_owed hS) rfl (by omega) (by decide) rfl ?_
    refine x_goto C dX3_owes_2_30 34 (by decide) ?_
    exact x_iret C dX3_owes_2_34 (Nat.le_refl _) (Nat.le_refl _) (Qm_of (by simp [sp_owes, sto_at, h6, ek]))
theorem kX3_meals (hS : twS S) (hI : Tok I) {t d : Int32} : Ct w l yX3_meals cX3_meals 5 (some .int) 3 0 0 [.ref 473, .int t, .int d] S I J (Qe (some (.int (sp_meals I t d))) S I J) := by
  refine Ct.of [some _, some _, some _, none, none] rfl (Nat.le_of_ble_eq_true rfl) (by decide) ?_
  intro κ hκ C
  subst hκ
  have hp10 := tk_p2 hI
  have ht6 := tk_t2 hI
  have hg30 := tk_g2 hI
  have hc30 := tk_c2 hI
  have hn500 := tk_n2 hI
  refine x_aloadr_n C dX3_meals_0 1 rfl rfl ?_
  refine x_iload_n C dX3_meals_1 2 rfl rfl ?_
  refine x_callV C lk_X3_170 dX3_meals_2 5 rfl [_] [] rfl rfl hS.1 (Nat.le_of_ble_eq_true rfl) (by decide) (Nat.le_refl _) (Nat.le_refl _) (kX3_isTown hS) ?_
  rintro _ _ _ _ ⟨rfl, rfl, rfl, rfl⟩
  refine x_ifeqZ C dX3_meals_5 8 17 rfl (by decide) (fun h5 => ?_) (fun h5 => ?_)
  · refine x_icm C dX3_meals_17 18 rfl ?_
    exact x_iret C dX3_meals_18 (Nat.le_refl _) (Nat.le_refl _) (Qe_of (by simp [sp_meals, h5]))
  · obtain ⟨t, ht, rfl⟩ := to_I hI h5
    have et : nt (nI t) = t := nt_nI (by omega)
    refine x_iload_n C dX3_meals_8 9 rfl rfl ?_
    refine x_ic (j := 0) C dX3_meals_9 10 rfl ?_
    refine x_ic (j := 3) C dX3_meals_10 11 rfl ?_
    refine x_callS C lk_X3_160 dX3_meals_11 14 rfl [_, _, _] [] rfl rfl (Nat.le_of_ble_eq_true rfl) (by decide) (Nat.le_refl _) (Nat.le_refl _) kX3_in ?_
    rintro _ _ _ _ ⟨rfl, rfl, rfl, rfl⟩
    refine x_ifneZ C dX3_meals_14 17 19 rfl (by decide) (fun h14 => ?_) (fun h14 => ?_)
    · refine x_ic (j := 0) C dX3_meals_19 20 rfl ?_
      refine x_istore_n C dX3_meals_20 21 rfl [_, _, _, _, _] (by decide) rfl rfl ?_
      refine x_ic (j := 0) C dX3_meals_21 22 rfl ?_
      refine x_istore C dX3_meals_22 24 rfl [_, _, _, _, _] (by decide) rfl rfl ?_
      have hloop24 : ∀ (j p : Nat) (c : Nat), p + j = (pn I) → c = cnt (mlP I t d) p → XX w κ (Zr w κ (Qe (some (.int (sp_meals I (nI t) d))) S I J)) 0 0 24 [some (.ref 473), some (.int (nI t)), some (.int d), some (.int (nI c)), some (.int (nI p))] [] S I J := by
        intro j
        induction j with
        | zero =>
          intro p c e24 h_c
          have e24 : (pn I) = p := Eq.symm e24
          subst e24
          subst h_c
          refine x_iload C dX3_meals_24 26 rfl rfl ?_
          refine x_aloadr_n C dX3_meals_26 27 rfl rfl ?_
          refine x_geti C fl_X3_157 (Or.inl rfl) dX3_meals_27 30 rfl hS.1 (tk_p (I := I) hI) ?_
          refine x_icmpgeN C dX3_meals_30 33 74 rfl (by decide) (by omega) (by omega) (fun _ => ?_) (fun h30 => absurd h30 (by omega))
          refine x_iload_n C dX3_meals_74 75 rfl rfl ?_
          exact x_iret C dX3_meals_75 (Nat.le_refl _) (Nat.le_refl _) (Qe_of (by simp [sp_meals, h5, et, h14]))
        | succ j ih24 =>
          intro p c e24 h_c
          refine x_iload C dX3_meals_24 26 rfl rfl ?_
          refine x_aloadr_n C dX3_meals_26 27 rfl rfl ?_
          refine x_geti C fl_X3_157 (Or.inl rfl) dX3_meals_27 30 rfl hS.1 (tk_p (I := I) hI) ?_
          refine x_icmpgeN C dX3_meals_30 33 74 rfl (by decide) (by omega) (by omega) (fun h30 => absurd h30 (by omega)) (fun _ => ?_)
          refine x_iload_n C dX3_meals_33 34 rfl rfl ?_
          refine x_aloadr_n C dX3_meals_34 35 rfl rfl ?_
          refine x_getr C fl_X3_66 (Or.inr ⟨_, rfl⟩) dX3_meals_35 38 rfl hS.1 (twR_list hS) ?_
          refine x_bip (j := 10) C dX3_meals_38 40 rfl (by decide) ?_
          refine x_iload_n C dX3_meals_40 41 rfl rfl ?_
          refine x_imul C dX3_meals_41 42 rfl (pk_mul _ _) ?_
          refine x_iload C dX3_meals_42 44 rfl rfl ?_
          refine x_iadd C dX3_meals_44 45 rfl (nI_add _ _) ?_
          refine x_iald C dX3_meals_45 46 rfl (twA_list hS) (twN_list hS) rfl (by omega) (by decide) rfl ?_
          refine x_icm C dX3_meals_46 47 rfl ?_
          refine x_icmpeq C dX3_meals_47 50 65 rfl (by decide) (fun h47 => ?_) (fun h47 => ?_)
          · refine x_ic (j := 0) C dX3_meals_65 66 rfl ?_
            refine x_iadd C dX3_meals_66 67 rfl (nI_add _ _) ?_
            refine x_istore_n C dX3_meals_67 68 rfl [_, _, _, _, _] (by decide) rfl rfl ?_
            refine x_iinc C dX3_meals_68 71 rfl [_, _, _, _, _] (nI_inc _) (by decide) rfl rfl rfl ?_
            refine x_goto C dX3_meals_71 24 (by decide) ?_
            exact (ih24 (p + 1) _ (by omega) (by simp [cnt, mlP, h_c, h5, et, h14, h47]))
          · refine x_aloadr_n C dX3_meals_50 51 rfl rfl ?_
            refine x_getr C fl_X3_24 (Or.inr ⟨_, rfl⟩) dX3_meals_51 54 rfl hS.1 (twR_diet hS) ?_
            refine x_iload C dX3_meals_54 56 rfl rfl ?_
            refine x_iald C dX3_meals_56 57 rfl (twA_diet hS) (twN_diet hS) rfl (by omega) (by decide) rfl ?_
            refine x_iload_n C dX3_meals_57 58 rfl rfl ?_
            refine x_icmpne C dX3_meals_58 61 65 rfl (by decide) (fun h58 => ?_) (fun h58 => ?_)
            · refine x_ic (j := 0) C dX3_meals_65 66 rfl ?_
              refine x_iadd C dX3_meals_66 67 rfl (nI_add _ _) ?_
              refine x_istore_n C dX3_meals_67 68 rfl [_, _, _, _, _] (by decide) rfl rfl ?_
              refine x_iinc C dX3_meals_68 71 rfl [_, _, _, _, _] (nI_inc _) (by decide) rfl rfl rfl ?_
              refine x_goto C dX3_meals_71 24 (by decide) ?_
              exact (ih24 (p + 1) _ (by omega) (by simp [cnt, mlP, h_c, h5, et, h14, h47, h58]))
            · refine x_ic (j := 1) C dX3_meals_61 62 rfl ?_
              refine x_goto C dX3_meals_62 66 (by decide) ?_
              refine x_iadd C dX3_meals_66 67 rfl (nI_add _ _) ?_
              refine x_istore_n C dX3_meals_67 68 rfl [_, _, _, _, _] (by decide) rfl rfl ?_
              refine x_iinc C dX3_meals_68 71 rfl [_, _, _, _, _] (nI_inc _) (by decide) rfl rfl rfl ?_
              refine x_goto C dX3_meals_71 24 (by decide) ?_
              exact (ih24 (p + 1) _ (by omega) (by simp [cnt, mlP, h_c, h5, et, h14, h47, h58]))
      exact hloop24 (pn I) 0 _ (Nat.zero_add _) rfl
    · refine x_icm C dX3_meals_17 18 rfl ?_
      exact x_iret C dX3_meals_18 (Nat.le_refl _) (Nat.le_refl _) (Qe_of (by simp [sp_meals, h5, et, h14]))
theorem kX3_townOf (hS : twS S) (hI : Tok I) {t k : Int32} : Ct w l yX3_townOf cX3_townOf 3 (some .int) 3 0 0 [.ref 473, .int t, .int k] S I J (Qe (some (.int (sp_townOf I t k))) S I J) := by
  refine Ct.of [some _, some _, some _] rfl (Nat.le_of_ble_eq_true rfl) (by decide) ?_
  intro κ hκ C
  subst hκ
  have hp10 := tk_p2 hI
  have ht6 := tk_t2 hI
  have hg30 := tk_g2 hI
  have hc30 := tk_c2 hI
  have hn500 := tk_n2 hI
  refine x_aloadr_n C dX3_townOf_0 1 rfl rfl ?_
  refine x_iload_n C dX3_townOf_1 2 rfl rfl ?_
  refine x_callV C lk_X3_170 dX3_townOf_2 5 rfl [_] [] rfl rfl hS.1 (Nat.le_of_ble_eq_true rfl) (by decide) (Nat.le_refl _) (Nat.le_refl _) (kX3_isTown hS) ?_
  rintro _ _ _ _ ⟨rfl, rfl, rfl, rfl⟩
  refine x_ifneZ C dX3_townOf_5 8 10 rfl (by decide) (fun h5 => ?_) (fun h5 => ?_)
  · obtain ⟨t, ht, rfl⟩ := to_I hI h5
    have et : nt (nI t) = t := nt_nI (by omega)
    refine x_iload_n C dX3_townOf_10 11 rfl rfl ?_
    refine x_sw9 C dX3_townOf_11 60 67 74 81 87 93 99 105 119 126 (by decide) (by decide) (fun hs11 => ?_) (fun hs11 => ?_) (fun hs11 => ?_) (fun hs11 => ?_) (fun hs11 => ?_) (fun hs11 => ?_) (fun hs11 => ?_) (fun hs11 => ?_) (fun hs11 => ?_) (fun hs11 => ?_)
    · refine x_aloadr_n C dX3_townOf_60 61 rfl rfl ?_
      refine x_getr C fl_X3_45 (Or.inr ⟨_, rfl⟩) dX3_townOf_61 64 rfl hS.1 (twR_long0 hS) ?_
      refine x_iload_n C dX3_townOf_64 65 rfl rfl ?_
      refine x_iald C dX3_townOf_65 66 rfl (twA_long0 hS) (twN_long0 hS) rfl (by omega) (by decide) rfl ?_
      exact x_iret C dX3_townOf_66 (Nat.le_refl _) (Nat.le_refl _) (Qe_of (by simp [sp_townOf, nI_lit, bzt, bzf, h5, et, hs11]))
    · refine x_aloadr_n C dX3_townOf_67 68 rfl rfl ?_
      refine x_getr C fl_X3_48 (Or.inr ⟨_, rfl⟩) dX3_townOf_68 71 rfl hS.1 (twR_first hS) ?_
      refine x_iload_n C dX3_townOf_71 72 rfl rfl ?_
      refine x_iald C dX3_townOf_72 73 rfl (twA_first hS) (twN_first hS) rfl (by omega) (by decide) rfl ?_
      exact x_iret C dX3_townOf_73 (Nat.le_refl _) (Nat.le_refl _) (Qe_of (by simp [sp_townOf, nI_lit, bzt, bzf, h5, et, hs11]))
    · refine x_aloadr_n C dX3_townOf_74 75 rfl rfl ?_
      refine x_getr C fl_X3_51 (Or.inr ⟨_, rfl⟩) dX3_townOf_75 78 rfl hS.1 (twR_rooms hS) ?_
      refine x_iload_n C dX3_townOf_78 79 rfl rfl ?_
      refine x_iald C dX3_townOf_79 80 rfl (twA_rooms hS) (twN_rooms hS) rfl (by omega) (by decide) rfl ?_
      exact x_iret C dX3_townOf_80 (Nat.le_refl _) (Nat.le_refl _) (Qe_of (by simp [sp_townOf, nI_lit, bzt, bzf, h5, et, hs11]))
    · refine x_aloadr_n C dX3_townOf_81 82 rfl rfl ?_
      refine x_iload_n C dX3_townOf_82 83 rfl rfl ?_
      refine x_callV C lk_X3_375 dX3_townOf_83 86 rfl [_] [] rfl rfl hS.1 (Nat.le_of_ble_eq_true rfl) (by decide) (Nat.le_refl _) (Nat.le_refl _) (kX3_heldIn hS (by omega) (tk_r hI (by omega)) (tk_r2 hI (by omega))) ?_
      rintro _ _ _ _ ⟨rfl, rfl, rfl, rfl⟩
      exact x_iret C dX3_townOf_86 (Nat.le_refl _) (Nat.le_refl _) (Qe_of (by simp [sp_townOf, nI_lit, bzt, bzf, h5, et, hs11]))
    · refine x_aloadr_n C dX3_townOf_87 88 rfl rfl ?_
      refine x_iload_n C dX3_townOf_88 89 rfl rfl ?_
      refine x_callV C lk_X3_378 dX3_townOf_89 92 rfl [_] [] rfl rfl hS.1 (Nat.le_of_ble_eq_true rfl) (by decide) (Nat.le_refl _) (Nat.le_refl _) (kX3_usedIn hS (tk_p hI) (tk_p2 hI) (by omega) (tk_r hI (by omega)) (tk_r2 hI (by omega))) ?_
      rintro _ _ _ _ ⟨rfl, rfl, rfl, rfl⟩
      exact x_iret C dX3_townOf_92 (Nat.le_refl _) (Nat.le_refl _) (Qe_of (by simp [sp_townOf, nI_lit, bzt, bzf, h5, et, hs11]))
    · refine x_aloadr_n C dX3_townOf_93 94 rfl rfl ?_
      refine x_iload_n C dX3_townOf_94 95 rfl rfl ?_
      refine x_callV C lk_X3_381 dX3_townOf_95 98 rfl [_] [] rfl rfl hS.1 (Nat.le_of_ble_eq_true rfl) (by decide) (Nat.le_refl _) (Nat.le_refl _) (kX3_peopleIn hS (tk_p hI) (tk_p2 hI) (by omega)) ?_
      rintro _ _ _ _ ⟨rfl, rfl, rfl, rfl⟩
      exact x_iret C dX3_townOf_98 (Nat.le_refl _) (Nat.le_refl _) (Qe_of (by simp [sp_townOf, nI_lit, bzt, bzf, h5, et, hs11]))
    · refine x_aloadr_n C dX3_townOf_99 100 rfl rfl ?_
      refine x_iload_n C dX3_townOf_100 101 rfl rfl ?_
      refine x_callV C lk_X3_445 dX3_townOf_101 104 rfl [_] [] rfl rfl hS.1 (Nat.le_of_ble_eq_true rfl) (by decide) (Nat.le_refl _) (Nat.le_refl _) (kX3_costOf hS (tk_p hI) (tk_p2 hI) (by omega) (tk_r hI (by omega)) (tk_r2 hI (by omega))) ?_
      rintro _ _ _ _ ⟨rfl, rfl, rfl, rfl⟩
      exact x_iret C dX3_townOf_104 (Nat.le_refl _) (Nat.le_refl _) (Qe_of (by simp [sp_townOf, nI_lit, bzt, bzf, h5, et, hs11]))
    · refine x_aloadr_n C dX3_townOf_105 106 rfl rfl ?_
      refine x_iload_n C dX3_townOf_106 107 rfl rfl ?_
      refine x_callV C lk_X3_174 dX3_townOf_107 110 rfl [_] [] rfl rfl hS.1 (Nat.le_of_ble_eq_true rfl) (by decide) (Nat.le_refl _) (Nat.le_refl _) (kX3_isOver hS (by omega)) ?_
      rintro _ _ _ _ ⟨rfl, rfl, rfl, rfl⟩
      refine x_ifeqZ C dX3_townOf_110 113 117 rfl (by decide) (fun h110 => ?_) (fun h110 => ?_)
      · refine x_ic (j := 0) C dX3_townOf_117 118 rfl ?_
        exact x_iret C dX3_townOf_118 (Nat.le_refl _) (Nat.le_refl _) (Qe_of (by simp [sp_townOf, nI_lit, bzt, bzf, h5, et, hs11, h110]))
      · refine x_ic (j := 1) C dX3_townOf_113 114 rfl ?_
        refine x_goto C dX3_townOf_114 118 (by decide) ?_
        exact x_iret C dX3_townOf_118 (Nat.le_refl _) (Nat.le_refl _) (Qe_of (by simp [sp_townOf, nI_lit, bzt, bzf, h5, et, hs11, h110]))
    · refine x_aloadr_n C dX3_townOf_119 120 rfl rfl ?_
      refine x_getr C fl_X3_118 (Or.inr ⟨_, rfl⟩) dX3_townOf_120 123 rfl hS.1 (twR_rules hS) ?_
      refine x_iload_n C dX3_townOf_123 124 rfl rfl ?_
      refine x_iald C dX3_townOf_124 125 rfl (twA_rules hS) (twN_rules hS) rfl (by omega) (by decide) rfl ?_
      exact x_iret C dX3_townOf_125 (Nat.le_refl _) (Nat.le_refl _) (Qe_of (by simp [sp_townOf, nI_lit, bzt, bzf, h5, et, hs11]))
    · refine x_icm C dX3_townOf_126 127 rfl ?_
      exact x_iret C dX3_townOf_127 (Nat.le_refl _) (Nat.le_refl _) (Qe_of (by simp [sp_townOf, nI_lit, bzt, bzf, h5, et, hs11]))
  · refine x_icm C dX3_townOf_8 9 rfl ?_
    exact x_iret C dX3_townOf_9 (Nat.le_refl _) (Nat.le_refl _) (Qe_of (by simp [sp_townOf, nI_lit, bzt, bzf, h5]))
theorem kX3_roomOf (hS : twS S) (hI : Tok I) {t r k : Int32} : Ct w l yX3_roomOf cX3_roomOf 5 (some .int) 3 0 0 [.ref 473, .int t, .int r, .int k] S I J (Qe (some (.int (sp_roomOf I t r k))) S I J) := by
  refine Ct.of [some _, some _, some _, some _, none] rfl (Nat.le_of_ble_eq_true rfl) (by decide) ?_
  intro κ hκ C
  subst hκ
  have hp10 := tk_p2 hI
  have ht6 := tk_t2 hI
  have hg30 := tk_g2 hI
  have hc30 := tk_c2 hI
  have hn500 := tk_n2 hI
  refine x_aloadr_n C dX3_roomOf_0 1 rfl rfl ?_
  refine x_iload_n C dX3_roomOf_1 2 rfl rfl ?_
  refine x_callV C lk_X3_170 dX3_roomOf_2 5 rfl [_] [] rfl rfl hS.1 (Nat.le_of_ble_eq_true rfl) (by decide) (Nat.le_refl _) (Nat.le_refl _) (kX3_isTown hS) ?_
  rintro _ _ _ _ ⟨rfl, rfl, rfl, rfl⟩
  refine x_ifeqZ C dX3_roomOf_5 8 17 rfl (by decide) (fun h5 => ?_) (fun h5 => ?_)
  · refine x_icm C dX3_roomOf_17 18 rfl ?_
    exact x_iret C dX3_roomOf_18 (Nat.le_refl _) (Nat.le_refl _) (Qe_of (by simp [sp_roomOf, nI_lit, bzt, bzf, h5]))
  · obtain ⟨t, ht, rfl⟩ := to_I hI h5
    have et : nt (nI t) = t := nt_nI (by omega)
    have hrn := tk_r2 hI (show t < 6 by omega)
    refine x_aloadr_n C dX3_roomOf_8 9 rfl rfl ?_
    refine x_iload_n C dX3_roomOf_9 10 rfl rfl ?_
    refine x_iload_n C dX3_roomOf_10 11 rfl rfl ?_
    refine x_callV C lk_X3_208 dX3_roomOf_11 14 rfl [_, _] [] rfl rfl hS.1 (Nat.le_of_ble_eq_true rfl) (by decide) (Nat.le_refl _) (Nat.le_refl _) (kX3_isRoom hS (by omega)) ?_
    rintro _ _ _ _ ⟨rfl, rfl, rfl, rfl⟩
    refine x_ifneZ C dX3_roomOf_14 17 19 rfl (by decide) (fun h14 => ?_) (fun h14 => ?_)
    · obtain ⟨r, hr, rfl⟩ := in_of (m := rn I t) (by rw [← tk_r hI (by omega)]; exact h14) (by omega)
      have er : nt (nI r) = r := nt_nI (by omega)
      refine x_bip (j := 10) C dX3_roomOf_19 21 rfl (by decide) ?_
      refine x_iload_n C dX3_roomOf_21 22 rfl rfl ?_
      refine x_imul C dX3_roomOf_22 23 rfl (pk_mul _ _) ?_
      refine x_iload_n C dX3_roomOf_23 24 rfl rfl ?_
      refine x_iadd C dX3_roomOf_24 25 rfl (nI_add _ _) ?_
      refine x_istore C dX3_roomOf_25 27 rfl [_, _, _, _, _] (by decide) rfl rfl ?_
      refine x_iload_n C dX3_roomOf_27 28 rfl rfl ?_
      refine x_sw5 C dX3_roomOf_28 64 72 88 96 112 119 (by decide) (by decide) (fun hs28 => ?_) (fun hs28 => ?_) (fun hs28 => ?_) (fun hs28 => ?_) (fun hs28 => ?_) (fun hs28 => ?_)
      · refine x_aloadr_n C dX3_roomOf_64 65 rfl rfl ?_
        refine x_getr C fl_X3_54 (Or.inr ⟨_, rfl⟩) dX3_roomOf_65 68 rfl hS.1 (twR_beds hS) ?_
        refine x_iload C dX3_roomOf_68 70 rfl rfl ?_
        refine x_iald C dX3_roomOf_70 71 rfl (twA_beds hS) (twN_beds hS) rfl (by omega) (by decide) rfl ?_
        exact x_iret C dX3_roomOf_71 (Nat.le_refl _) (Nat.le_refl _) (Qe_of (by simp [sp_roomOf, nI_lit, bzt, bzf, h5, et, h14, er, hs28]))
      · refine x_aloadr_n C dX3_roomOf_72 73 rfl rfl ?_
        refine x_getr C fl_X3_57 (Or.inr ⟨_, rfl⟩) dX3_roomOf_73 76 rfl hS.1 (twR_lowRoom hS) ?_
        refine x_iload C dX3_roomOf_76 78 rfl rfl ?_
        refine x_zald C dX3_roomOf_78 79 rfl (twA_lowRoom hS) (twN_lowRoom hS) rfl (by omega) (by decide) rfl ?_
        refine x_ifeq C dX3_roomOf_79 82 86 rfl (by decide) (fun h79 => ?_) (fun h79 => ?_)
        · refine x_ic (j := 0) C dX3_roomOf_86 87 rfl ?_
          exact x_iret C dX3_roomOf_87 (Nat.le_refl _) (Nat.le_refl _) (Qe_of (by simp [sp_roomOf, nI_lit, bzt, bzf, h5, et, h14, er, hs28, h79]))
        · refine x_ic (j := 1) C dX3_roomOf_82 83 rfl ?_
          refine x_goto C dX3_roomOf_83 87 (by decide) ?_
          exact x_iret C dX3_roomOf_87 (Nat.le_refl _) (Nat.le_refl _) (Qe_of (by simp [sp_roomOf, nI_lit, bzt, bzf, h5, et, h14, er, hs28, h79]))
      · refine x_aloadr_n C dX3_roomOf_88 89 rfl rfl ?_
        refine x_getr C fl_X3_60 (Or.inr ⟨_, rfl⟩) dX3_roomOf_89 92 rfl hS.1 (twR_price hS) ?_
        refine x_iload C dX3_roomOf_92 94 rfl rfl ?_
        refine x_iald C dX3_roomOf_94 95 rfl (twA_price hS) (twN_price hS) rfl (by omega) (by decide) rfl ?_
        exact x_iret C dX3_roomOf_95 (Nat.le_refl _) (Nat.le_refl _) (Qe_of (by simp [sp_roomOf, nI_lit, bzt, bzf, h5, et, h14, er, hs28]))
      · refine x_aloadr_n C dX3_roomOf_96 97 rfl rfl ?_
        refine x_getr C fl_X3_63 (Or.inr ⟨_, rfl⟩) dX3_roomOf_97 100 rfl hS.1 (twR_held hS) ?_
        refine x_iload C dX3_roomOf_100 102 rfl rfl ?_
        refine x_zald C dX3_roomOf_102 103 rfl (twA_held hS) (twN_held hS) rfl (by omega) (by decide) rfl ?_
        refine x_ifeq C dX3_roomOf_103 106 110 rfl (by decide) (fun h103 => ?_) (fun h103 => ?_)
        · refine x_ic (j := 0) C dX3_roomOf_110 111 rfl ?_
          exact x_iret C dX3_roomOf_111 (Nat.le_refl _) (Nat.le_refl _) (Qe_of (by simp [sp_roomOf, nI_lit, bzt, bzf, h5, et, h14, er, hs28, h103]))
        · refine x_ic (j := 1) C dX3_roomOf_106 107 rfl ?_
          refine x_goto C dX3_roomOf_107 111 (by decide) ?_
          exact x_iret C dX3_roomOf_111 (Nat.le_refl _) (Nat.le_refl _) (Qe_of (by simp [sp_roomOf, nI_lit, bzt, bzf, h5, et, h14, er, hs28, h103]))
      · refine x_aloadr_n C dX3_roomOf_112 113 rfl rfl ?_
        refine x_iload_n C dX3_roomOf_113 114 rfl rfl ?_
        refine x_iload_n C dX3_roomOf_114 115 rfl rfl ?_
        refine x_callV C lk_X3_211 dX3_roomOf_115 118 rfl [_, _] [] rfl rfl hS.1 (Nat.le_of_ble_eq_true rfl) (by decide) (Nat.le_refl _) (Nat.le_refl _) (kX3_setIn hS (tk_p hI) (tk_p2 hI) (by omega)) ?_
        rintro _ _ _ _ ⟨rfl, rfl, rfl, rfl⟩
        exact x_iret C dX3_roomOf_118 (Nat.le_refl _) (Nat.le_refl _) (Qe_of (by simp [sp_roomOf, nI_lit, bzt, bzf, h5, et, h14, er, hs28]))
      · refine x_icm C dX3_roomOf_119 120 rfl ?_
        exact x_iret C dX3_roomOf_120 (Nat.le_refl _) (Nat.le_refl _) (Qe_of (by simp [sp_roomOf, nI_lit, bzt, bzf, h5, et, h14, er, hs28]))
    · refine x_icm C dX3_roomOf_17 18 rfl ?_
      exact x_iret C dX3_roomOf_18 (Nat.le_refl _) (Nat.le_refl _) (Qe_of (by simp [sp_roomOf, nI_lit, bzt, bzf, h5, et, h14]))
theorem kX3_personOf (hS : twS S) (hI : Tok I) {p k : Int32} : Ct w l yX3_personOf cX3_personOf 5 (some .int) 3 0 0 [.ref 473, .int p, .int k] S I J (Qe (some (.int (sp_personOf I p k))) S I J) := by
  refine Ct.of [some _, some _, some _, none, none] rfl (Nat.le_of_ble_eq_true rfl) (by decide) ?_
  intro κ hκ C
  subst hκ
  have hp10 := tk_p2 hI
  have ht6 := tk_t2 hI
  have hg30 := tk_g2 hI
  have hc30 := tk_c2 hI
  have hn500 := tk_n2 hI
  refine x_aloadr_n C dX3_personOf_0 1 rfl rfl ?_
  refine x_iload_n C dX3_personOf_1 2 rfl rfl ?_
  refine x_callV C lk_X3_177 dX3_personOf_2 5 rfl [_] [] rfl rfl hS.1 (Nat.le_of_ble_eq_true rfl) (by decide) (Nat.le_refl _) (Nat.le_refl _) (kX3_isPerson hS) ?_
  rintro _ _ _ _ ⟨rfl, rfl, rfl, rfl⟩
  refine x_ifneZ C dX3_personOf_5 8 10 rfl (by decide) (fun h5 => ?_) (fun h5 => ?_)
  · obtain ⟨p, hp, rfl⟩ := pe_I hI h5
    have ep : nt (nI p) = p := nt_nI (by omega)
    refine x_iload_n C dX3_personOf_10 11 rfl rfl ?_
    refine x_sw9 C dX3_personOf_11 60 75 82 97 104 111 118 133 140 196 (by decide) (by decide) (fun hs11 => ?_) (fun hs11 => ?_) (fun hs11 => ?_) (fun hs11 => ?_) (fun hs11 => ?_) (fun hs11 => ?_) (fun hs11 => ?_) (fun hs11 => ?_) (fun hs11 => ?_) (fun hs11 => ?_)
    · refine x_aloadr_n C dX3_personOf_60 61 rfl rfl ?_
      refine x_getr C fl_X3_13 (Or.inr ⟨_, rfl⟩) dX3_personOf_61 64 rfl hS.1 (twR_shares hS) ?_
      refine x_iload_n C dX3_personOf_64 65 rfl rfl ?_
      refine x_zald C dX3_personOf_65 66 rfl (twA_shares hS) (twN_shares hS) rfl (by omega) (by decide) rfl ?_
      refine x_ifeq C dX3_personOf_66 69 73 rfl (by decide) (fun h66 => ?_) (fun h66 => ?_)
      · refine x_ic (j := 0) C dX3_personOf_73 74 rfl ?_
        exact x_iret C dX3_personOf_74 (Nat.le_refl _) (Nat.le_refl _) (Qe_of (by simp [sp_personOf, nI_lit, bzt, bzf, h5, ep, hs11, h66]))
      · refine x_ic (j := 1) C dX3_personOf_69 70 rfl ?_
        refine x_goto C dX3_personOf_70 74 (by decide) ?_
        exact x_iret C dX3_personOf_74 (Nat.le_refl _) (Nat.le_refl _) (Qe_of (by simp [sp_personOf, nI_lit, bzt, bzf, h5, ep, hs11, h66]))
    · refine x_aloadr_n C dX3_personOf_75 76 rfl rfl ?_
      refine x_getr C fl_X3_17 (Or.inr ⟨_, rfl⟩) dX3_personOf_76 79 rfl hS.1 (twR_sort hS) ?_
      refine x_iload_n C dX3_personOf_79 80 rfl rfl ?_
      refine x_iald C dX3_personOf_80 81 rfl (twA_sort hS) (twN_sort hS) rfl (by omega) (by decide) rfl ?_
      exact x_iret C dX3_personOf_81 (Nat.le_refl _) (Nat.le_refl _) (Qe_of (by simp [sp_personOf, nI_lit, bzt, bzf, h5, ep, hs11]))
    · refine x_aloadr_n C dX3_personOf_82 83 rfl rfl ?_
      refine x_getr C fl_X3_21 (Or.inr ⟨_, rfl⟩) dX3_personOf_83 86 rfl hS.1 (twR_low hS) ?_
      refine x_iload_n C dX3_personOf_86 87 rfl rfl ?_
      refine x_zald C dX3_personOf_87 88 rfl (twA_low hS) (twN_low hS) rfl (by omega) (by decide) rfl ?_
      refine x_ifeq C dX3_personOf_88 91 95 rfl (by decide) (fun h88 => ?_) (fun h88 => ?_)
      · refine x_ic (j := 0) C dX3_personOf_95 96 rfl ?_
        exact x_iret C dX3_personOf_96 (Nat.le_refl _) (Nat.le_refl _) (Qe_of (by simp [sp_personOf, nI_lit, bzt, bzf, h5, ep, hs11, h88]))
      · refine x_ic (j := 1) C dX3_personOf_91 92 rfl ?_
        refine x_goto C dX3_personOf_92 96 (by decide) ?_
        exact x_iret C dX3_personOf_96 (Nat.le_refl _) (Nat.le_refl _) (Qe_of (by simp [sp_personOf, nI_lit, bzt, bzf, h5, ep, hs11, h88]))
    · refine x_aloadr_n C dX3_personOf_97 98 rfl rfl ?_
      refine x_getr C fl_X3_24 (Or.inr ⟨_, rfl⟩) dX3_personOf_98 101 rfl hS.1 (twR_diet hS) ?_
      refine x_iload_n C dX3_personOf_101 102 rfl rfl ?_
      refine x_iald C dX3_personOf_102 103 rfl (twA_diet hS) (twN_diet hS) rfl (by omega) (by decide) rfl ?_
      exact x_iret C dX3_personOf_103 (Nat.le_refl _) (Nat.le_refl _) (Qe_of (by simp [sp_personOf, nI_lit, bzt, bzf, h5, ep, hs11]))
    · refine x_aloadr_n C dX3_personOf_104 105 rfl rfl ?_
      refine x_getr C fl_X3_27 (Or.inr ⟨_, rfl⟩) dX3_personOf_105 108 rfl hS.1 (twR_from hS) ?_
      refine x_iload_n C dX3_personOf_108 109 rfl rfl ?_
      refine x_iald C dX3_personOf_109 110 rfl (twA_from hS) (twN_from hS) rfl (by omega) (by decide) rfl ?_
      exact x_iret C dX3_personOf_110 (Nat.le_refl _) (Nat.le_refl _) (Qe_of (by simp [sp_personOf, nI_lit, bzt, bzf, h5, ep, hs11]))
    · refine x_aloadr_n C dX3_personOf_111 112 rfl rfl ?_
      refine x_getr C fl_X3_30 (Or.inr ⟨_, rfl⟩) dX3_personOf_112 115 rfl hS.1 (twR_to hS) ?_
      refine x_iload_n C dX3_personOf_115 116 rfl rfl ?_
      refine x_iald C dX3_personOf_116 117 rfl (twA_to hS) (twN_to hS) rfl (by omega) (by decide) rfl ?_
      exact x_iret C dX3_personOf_117 (Nat.le_refl _) (Nat.le_refl _) (Qe_of (by simp [sp_personOf, nI_lit, bzt, bzf, h5, ep, hs11]))
    · refine x_aloadr_n C dX3_personOf_118 119 rfl rfl ?_
      refine x_getr C fl_X3_33 (Or.inr ⟨_, rfl⟩) dX3_personOf_119 122 rfl hS.1 (twR_isGone hS) ?_
      refine x_iload_n C dX3_personOf_122 123 rfl rfl ?_
      refine x_zald C dX3_personOf_123 124 rfl (twA_isGone hS) (twN_isGone hS) rfl (by omega) (by decide) rfl ?_
      refine x_ifeq C dX3_personOf_124 127 131 rfl (by decide) (fun h124 => ?_) (fun h124 => ?_)
      · refine x_ic (j := 0) C dX3_personOf_131 132 rfl ?_
        exact x_iret C dX3_personOf_132 (Nat.le_refl _) (Nat.le_refl _) (Qe_of (by simp [sp_personOf, nI_lit, bzt, bzf, h5, ep, hs11, h124]))
      · refine x_ic (j := 1) C dX3_personOf_127 128 rfl ?_
        refine x_goto C dX3_personOf_128 132 (by decide) ?_
        exact x_iret C dX3_personOf_132 (Nat.le_refl _) (Nat.le_refl _) (Qe_of (by simp [sp_personOf, nI_lit, bzt, bzf, h5, ep, hs11, h124]))
    · refine x_aloadr_n C dX3_personOf_133 134 rfl rfl ?_
      refine x_getr C fl_X3_36 (Or.inr ⟨_, rfl⟩) dX3_personOf_134 137 rfl hS.1 (twR_friend hS) ?_
      refine x_iload_n C dX3_personOf_137 138 rfl rfl ?_
      refine x_iald C dX3_personOf_138 139 rfl (twA_friend hS) (twN_friend hS) rfl (by omega) (by decide) rfl ?_
      exact x_iret C dX3_personOf_139 (Nat.le_refl _) (Nat.le_refl _) (Qe_of (by simp [sp_personOf, nI_lit, bzt, bzf, h5, ep, hs11]))
    · refine x_ic (j := 0) C dX3_personOf_140 141 rfl ?_
      refine x_istore_n C dX3_personOf_141 142 rfl [_, _, _, _, _] (by decide) rfl rfl ?_
      refine x_ic (j := 0) C dX3_personOf_142 143 rfl ?_
      refine x_istore C dX3_personOf_143 145 rfl [_, _, _, _, _] (by decide) rfl rfl ?_
      have hloop145 : ∀ (j q : Nat) (c : Nat), q + j = (pn I) → c = cnt (shP I p) q → XX w κ (Zr w κ (Qe (some (.int (sp_personOf I (nI p) k))) S I J)) 0 0 145 [some (.ref 473), some (.int (nI p)), some (.int k), some (.int (nI c)), some (.int (nI q))] [] S I J := by
        intro j
        induction j with
        | zero =>
          intro q c e145 h_c
          have e145 : (pn I) = q := Eq.symm e145
          subst e145
          subst h_c
          refine x_iload C dX3_personOf_145 147 rfl rfl ?_
          refine x_aloadr_n C dX3_personOf_147 148 rfl rfl ?_
          refine x_geti C fl_X3_157 (Or.inl rfl) dX3_personOf_148 151 rfl hS.1 (tk_p (I := I) hI) ?_
          refine x_icmpgeN C dX3_personOf_151 154 194 rfl (by decide) (by omega) (by omega) (fun _ => ?_) (fun h151 => absurd h151 (by omega))
          refine x_iload_n C dX3_personOf_194 195 rfl rfl ?_
          exact x_iret C dX3_personOf_195 (Nat.le_refl _) (Nat.le_refl _) (Qe_of (by simp [sp_personOf, nI_lit, bzt, bzf, h5, ep, hs11]))
        | succ j ih145 =>
          intro q c e145 h_c
          refine x_iload C dX3_personOf_145 147 rfl rfl ?_
          refine x_aloadr_n C dX3_personOf_147 148 rfl rfl ?_
          refine x_geti C fl_X3_157 (Or.inl rfl) dX3_personOf_148 151 rfl hS.1 (tk_p (I := I) hI) ?_
          refine x_icmpgeN C dX3_personOf_151 154 194 rfl (by decide) (by omega) (by omega) (fun h151 => absurd h151 (by omega)) (fun _ => ?_)
          refine x_iload_n C dX3_personOf_154 155 rfl rfl ?_
          refine x_iload C dX3_personOf_155 157 rfl rfl ?_
          refine x_iload_n C dX3_personOf_157 158 rfl rfl ?_
          refine x_icmpeqN C dX3_personOf_158 161 185 rfl (by decide) (by omega) (by omega) (fun h158 => ?_) (fun h158 => ?_)
          · refine x_ic (j := 0) C dX3_personOf_185 186 rfl ?_
            refine x_iadd C dX3_personOf_186 187 rfl (nI_add _ _) ?_
            refine x_istore_n C dX3_personOf_187 188 rfl [_, _, _, _, _] (by decide) rfl rfl ?_
            refine x_iinc C dX3_personOf_188 191 rfl [_, _, _, _, _] (nI_inc _) (by decide) rfl rfl rfl ?_
            refine x_goto C dX3_personOf_191 145 (by decide) ?_
            exact (ih145 (q + 1) _ (by omega) (by simp [cnt, shP, h_c, h5, ep, hs11, h158]))
          · refine x_aloadr_n C dX3_personOf_161 162 rfl rfl ?_
            refine x_getr C fl_X3_33 (Or.inr ⟨_, rfl⟩) dX3_personOf_162 165 rfl hS.1 (twR_isGone hS) ?_
            refine x_iload C dX3_personOf_165 167 rfl rfl ?_
            refine x_zald C dX3_personOf_167 168 rfl (twA_isGone hS) (twN_isGone hS) rfl (by omega) (by decide) rfl ?_
            refine x_ifne C dX3_personOf_168 171 185 rfl (by decide) (fun h168 => ?_) (fun h168 => ?_)
            · refine x_ic (j := 0) C dX3_personOf_185 186 rfl ?_
              refine x_iadd C dX3_personOf_186 187 rfl (nI_add _ _) ?_
              refine x_istore_n C dX3_personOf_187 188 rfl [_, _, _, _, _] (by decide) rfl rfl ?_
              refine x_iinc C dX3_personOf_188 191 rfl [_, _, _, _, _] (nI_inc _) (by decide) rfl rfl rfl ?_
              refine x_goto C dX3_personOf_191 145 (by decide) ?_
              exact (ih145 (q + 1) _ (by omega) (by simp [cnt, shP, h_c, h5, ep, hs11, h158, h168]))
            · refine x_aloadr_n C dX3_personOf_171 172 rfl rfl ?_
              refine x_iload_n C dX3_personOf_172 173 rfl rfl ?_
              refine x_iload C dX3_personOf_173 175 rfl rfl ?_
              refine x_callV C lk_X3_201 dX3_personOf_175 178 rfl [_, _] [_] rfl rfl hS.1 (Nat.le_of_ble_eq_true rfl) (by decide) (Nat.le_refl _) (Nat.le_refl _) (kX3_mayShare hS (by omega) (by omega)) ?_
              rintro _ _ _ _ ⟨rfl, rfl, rfl, rfl⟩
              refine x_ifeqZ C dX3_personOf_178 181 185 rfl (by decide) (fun h178 => ?_) (fun h178 => ?_)
              · refine x_ic (j := 0) C dX3_personOf_185 186 rfl ?_
                refine x_iadd C dX3_personOf_186 187 rfl (nI_add _ _) ?_
                refine x_istore_n C dX3_personOf_187 188 rfl [_, _, _, _, _] (by decide) rfl rfl ?_
                refine x_iinc C dX3_personOf_188 191 rfl [_, _, _, _, _] (nI_inc _) (by decide) rfl rfl rfl ?_
                refine x_goto C dX3_personOf_191 145 (by decide) ?_
                exact (ih145 (q + 1) _ (by omega) (by simp [cnt, shP, h_c, h5, ep, hs11, h158, h168, h178]))
              · refine x_ic (j := 1) C dX3_personOf_181 182 rfl ?_
                refine x_goto C dX3_personOf_182 186 (by decide) ?_
                refine x_iadd C dX3_personOf_186 187 rfl (nI_add _ _) ?_
                refine x_istore_n C dX3_personOf_187 188 rfl [_, _, _, _, _] (by decide) rfl rfl ?_
                refine x_iinc C dX3_personOf_188 191 rfl [_, _, _, _, _] (nI_inc _) (by decide) rfl rfl rfl ?_
                refine x_goto C dX3_personOf_191 145 (by decide) ?_
                exact (ih145 (q + 1) _ (by omega) (by simp [cnt, shP, h_c, h5, ep, hs11, h158, h168, h178]))
      exact hloop145 (pn I) 0 _ (Nat.zero_add _) rfl
    · refine x_icm C dX3_personOf_196 197 rfl ?_
      exact x_iret C dX3_personOf_197 (Nat.le_refl _) (Nat.le_refl _) (Qe_of (by simp [sp_personOf, nI_lit, bzt, bzf, h5, ep, hs11]))
  · refine x_icm C dX3_personOf_8 9 rfl ?_
    exact x_iret C dX3_personOf_9 (Nat.le_refl _) (Nat.le_refl _) (Qe_of (by simp [sp_personOf, nI_lit, bzt, bzf, h5]))
theorem kX3_count (hS : twS S) {k : Int32} : Ct w l yX3_count cX3_count 2 (some .int) 1 0 0 [.ref 473, .int k] S I J (Qe (some (.int (sp_count I k))) S I J) := by
  refine Ct.of [some _, some _] rfl (Nat.le_of_ble_eq_true rfl) (by decide) ?_
  intro κ hκ C
  subst hκ
  refine x_iload_n C dX3_count_0 1 rfl rfl ?_
  refine x_sw11 C dX3_count_1 60 65 70 75 80 85 90 95 100 105 110 115 (by decide) (by decide) (fun hs1 => ?_) (fun hs1 => ?_) (fun hs1 => ?_) (fun hs1 => ?_) (fun hs1 => ?_) (fun hs1 => ?_) (fun hs1 => ?_) (fun hs1 => ?_) (fun hs1 => ?_) (fun hs1 => ?_) (fun hs1 => ?_) (fun hs1 => ?_)
  · refine x_aloadr_n C dX3_count_60 61 rfl rfl ?_
    refine x_geti C fl_X3_183 (Or.inl rfl) dX3_count_61 64 rfl hS.1 rfl ?_
    exact x_iret C dX3_count_64 (Nat.le_refl _) (Nat.le_refl _) (Qe_of (by simp [sp_count, nI_lit, hs1]))
  · refine x_aloadr_n C dX3_count_65 66 rfl rfl ?_
    refine x_geti C fl_X3_42 (Or.inl rfl) dX3_count_66 69 rfl hS.1 rfl ?_
    exact x_iret C dX3_count_69 (Nat.le_refl _) (Nat.le_refl _) (Qe_of (by simp [sp_count, nI_lit, hs1]))
  · refine x_aloadr_n C dX3_count_70 71 rfl rfl ?_
    refine x_geti C fl_X3_195 (Or.inl rfl) dX3_count_71 74 rfl hS.1 rfl ?_
    exact x_iret C dX3_count_74 (Nat.le_refl _) (Nat.le_refl _) (Qe_of (by simp [sp_count, nI_lit, hs1]))
  · refine x_aloadr_n C dX3_count_75 76 rfl rfl ?_
    refine x_geti C fl_X3_157 (Or.inl rfl) dX3_count_76 79 rfl hS.1 rfl ?_
    exact x_iret C dX3_count_79 (Nat.le_refl _) (Nat.le_refl _) (Qe_of (by simp [sp_count, nI_lit, hs1]))
  · refine x_aloadr_n C dX3_count_80 81 rfl rfl ?_
    refine x_geti C fl_X3_164 (Or.inl rfl) dX3_count_81 84 rfl hS.1 rfl ?_
    exact x_iret C dX3_count_84 (Nat.le_refl _) (Nat.le_refl _) (Qe_of (by simp [sp_count, nI_lit, hs1]))
  · refine x_aloadr_n C dX3_count_85 86 rfl rfl ?_
    refine x_geti C fl_X3_192 (Or.inl rfl) dX3_count_86 89 rfl hS.1 rfl ?_
    exact x_iret C dX3_count_89 (Nat.le_refl _) (Nat.le_refl _) (Qe_of (by simp [sp_count, nI_lit, hs1]))
  · refine x_aloadr_n C dX3_count_90 91 rfl rfl ?_
    refine x_geti C fl_X3_167 (Or.inl rfl) dX3_count_91 94 rfl hS.1 rfl ?_
    exact x_iret C dX3_count_94 (Nat.le_refl _) (Nat.le_refl _) (Qe_of (by simp [sp_count, nI_lit, hs1]))
  · refine x_aloadr_n C dX3_count_95 96 rfl rfl ?_
    refine x_geti C fl_X3_392 (Or.inl rfl) dX3_count_96 99 rfl hS.1 rfl ?_
    exact x_iret C dX3_count_99 (Nat.le_refl _) (Nat.le_refl _) (Qe_of (by simp [sp_count, nI_lit, hs1]))
  · refine x_aloadr_n C dX3_count_100 101 rfl rfl ?_
    refine x_geti C fl_X3_246 (Or.inl rfl) dX3_count_101 104 rfl hS.1 rfl ?_
    exact x_iret C dX3_count_104 (Nat.le_refl _) (Nat.le_refl _) (Qe_of (by simp [sp_count, nI_lit, hs1]))
  · refine x_aloadr_n C dX3_count_105 106 rfl rfl ?_
    refine x_geti C fl_X3_405 (Or.inl rfl) dX3_count_106 109 rfl hS.1 rfl ?_
    exact x_iret C dX3_count_109 (Nat.le_refl _) (Nat.le_refl _) (Qe_of (by simp [sp_count, nI_lit, hs1]))
  · refine x_aloadr_n C dX3_count_110 111 rfl rfl ?_
    refine x_geti C fl_X3_180 (Or.inl rfl) dX3_count_111 114 rfl hS.1 rfl ?_
    exact x_iret C dX3_count_114 (Nat.le_refl _) (Nat.le_refl _) (Qe_of (by simp [sp_count, nI_lit, hs1]))
  · refine x_icm C dX3_count_115 116 rfl ?_
    exact x_iret C dX3_count_116 (Nat.le_refl _) (Nat.le_refl _) (Qe_of (by simp [sp_count, nI_lit, hs1]))
theorem kX3_moved (hS : twS S) : Ct w l yX3_moved cX3_moved 1 (some .int) 1 0 0 [.ref 473] S I J (Qe (some (.int (I 473 37))) S I J) := by
  refine Ct.of [some _] rfl (Nat.le_of_ble_eq_true rfl) (by decide) ?_
  intro κ hκ C
  subst hκ
  refine x_aloadr_n C dX3_moved_0 1 rfl rfl ?_
  refine x_geti C fl_X3_99 (Or.inl rfl) dX3_moved_1 4 rfl hS.1 rfl ?_
  exact x_iret C dX3_moved_4 (Nat.le_refl _) (Nat.le_refl _) ⟨rfl, rfl, rfl, rfl⟩
theorem kX3_thrown (hS : twS S) : Ct w l yX3_thrown cX3_thrown 1 (some .int) 1 0 0 [.ref 473] S I J (Qe (some (.int (I 473 0))) S I J) := by
  refine Ct.of [some _] rfl (Nat.le_of_ble_eq_true rfl) (by decide) ?_
  intro κ hκ C
  subst hκ
  refine x_aloadr_n C dX3_thrown_0 1 rfl rfl ?_
  refine x_geti C fl_X3_1 (Or.inl rfl) dX3_thrown_1 4 rfl hS.1 rfl ?_
  exact x_iret C dX3_thrown_4 (Nat.le_refl _) (Nat.le_refl _) ⟨rfl, rfl, rfl, rfl⟩
theorem kX3_sight (hS : twS S) (hI : Tok I) {o s k : Int32} : Ct w l yX3_sight cX3_sight 4 (some .int) 2 0 0 [.ref 473, .int o, .int s, .int k] S I J (Qm (sp_sight I o s k) S J) := by
  refine Ct.of [some _, some _, some _, some _] rfl (Nat.le_of_ble_eq_true rfl) (by decide) ?_
  intro κ hκ C
  subst hκ
  have hp10 := tk_p2 hI
  have ht6 := tk_t2 hI
  have hg30 := tk_g2 hI
  have hc30 := tk_c2 hI
  have hn500 := tk_n2 hI
  have hs6 := tk_s2 hI
  have es := tk_s hI
  refine x_iload_n C dX3_sight_0 1 rfl rfl ?_
  refine x_ic (j := 0) C dX3_sight_1 2 rfl ?_
  refine x_sip (j := 1440) C dX3_sight_2 5 rfl (by decide) ?_
  refine x_callS C lk_X3_160 dX3_sight_5 8 rfl [_, _, _] [] rfl rfl (Nat.le_of_ble_eq_true rfl) (by decide) (Nat.le_refl _) (Nat.le_refl _) kX3_in ?_
  rintro _ _ _ _ ⟨rfl, rfl, rfl, rfl⟩
  refine x_ifeqZ C dX3_sight_8 11 49 rfl (by decide) (fun h8 => ?_) (fun h8 => ?_)
  · refine x_icm C dX3_sight_49 50 rfl ?_
    exact x_iret C dX3_sight_50 (Nat.le_refl _) (Nat.le_refl _) (Qm_of (by simp [sp_sight, no1, h8]))
  · refine x_iload_n C dX3_sight_11 12 rfl rfl ?_
    refine x_ic (j := 0) C dX3_sight_12 13 rfl ?_
    refine x_sip (j := 1440) C dX3_sight_13 16 rfl (by decide) ?_
    refine x_callS C lk_X3_160 dX3_sight_16 19 rfl [_, _, _] [] rfl rfl (Nat.le_of_ble_eq_true rfl) (by decide) (Nat.le_refl _) (Nat.le_refl _) kX3_in ?_
    rintro _ _ _ _ ⟨rfl, rfl, rfl, rfl⟩
    refine x_ifeqZ C dX3_sight_19 22 49 rfl (by decide) (fun h19 => ?_) (fun h19 => ?_)
    · refine x_icm C dX3_sight_49 50 rfl ?_
      exact x_iret C dX3_sight_50 (Nat.le_refl _) (Nat.le_refl _) (Qm_of (by simp [sp_sight, no1, h8, h19]))
    · refine x_iload_n C dX3_sight_22 23 rfl rfl ?_
      refine x_ic (j := 1) C dX3_sight_23 24 rfl ?_
      refine x_sip (j := 300) C dX3_sight_24 27 rfl (by decide) ?_
      refine x_callS C lk_X3_160 dX3_sight_27 30 rfl [_, _, _] [] rfl rfl (Nat.le_of_ble_eq_true rfl) (by decide) (Nat.le_refl _) (Nat.le_refl _) kX3_in ?_
      rintro _ _ _ _ ⟨rfl, rfl, rfl, rfl⟩
      refine x_ifeqZ C dX3_sight_30 33 49 rfl (by decide) (fun h30 => ?_) (fun h30 => ?_)
      · refine x_icm C dX3_sight_49 50 rfl ?_
        exact x_iret C dX3_sight_50 (Nat.le_refl _) (Nat.le_refl _) (Qm_of (by simp [sp_sight, no1, h8, h19, h30]))
      · refine x_iload_n C dX3_sight_33 34 rfl rfl ?_
        refine x_iload_n C dX3_sight_34 35 rfl rfl ?_
        refine x_iadd C dX3_sight_35 36 rfl rfl ?_
        refine x_iload_n C dX3_sight_36 37 rfl rfl ?_
        refine x_icmpgt C dX3_sight_37 40 49 rfl (by decide) (fun h37 => ?_) (fun h37 => ?_)
        · refine x_icm C dX3_sight_49 50 rfl ?_
          exact x_iret C dX3_sight_50 (Nat.le_refl _) (Nat.le_refl _) (Qm_of (by simp [sp_sight, no1, h8, h19, h30, h37]))
        · refine x_aloadr_n C dX3_sight_40 41 rfl rfl ?_
          refine x_geti C fl_X3_405 (Or.inl rfl) dX3_sight_41 44 rfl hS.1 (tk_s (I := I) hI) ?_
          refine x_bip (j := 6) C dX3_sight_44 46 rfl (by decide) ?_
          refine x_icmpneN C dX3_sight_46 49 51 rfl (by decide) (by omega) (by omega) (fun h46 => ?_) (fun h46 => ?_)
          · have e46 : ¬ I 473 63 = nI 6 := by rw [es, nI_lit _ _ (by omega) (by omega)]; exact h46
            refine x_aloadr_n C dX3_sight_51 52 rfl rfl ?_
            refine x_dup C dX3_sight_52 53 rfl rfl ?_
            refine x_geti C fl_X3_405 (Or.inl rfl) dX3_sight_53 56 rfl hS.1 (tk_s (I := I) hI) ?_
            refine x_ic (j := 1) C dX3_sight_56 57 rfl ?_
            refine x_iadd C dX3_sight_57 58 rfl (nI_add _ _) ?_
            refine x_puti C fl_X3_405 (Or.inl rfl) (Or.inl rfl) dX3_sight_58 61 rfl hS.1 ?_
            refine x_aloadr_n C dX3_sight_61 62 rfl rfl ?_
            refine x_getr C fl_X3_130 (Or.inr ⟨_, rfl⟩) dX3_sight_62 65 rfl hS.1 (twR_opens hS) ?_
            refine x_aloadr_n C dX3_sight_65 66 rfl rfl ?_
            refine x_geti C fl_X3_405 (Or.inl rfl) dX3_sight_66 69 rfl hS.1 (Eq.refl (nI (sn I + 1))) ?_
            refine x_iload_n C dX3_sight_69 70 rfl rfl ?_
            refine x_iast C dX3_sight_70 71 rfl (twA_opens hS) (twN_opens hS) rfl (by omega) (by decide) ?_
            refine x_aloadr_n C dX3_sight_71 72 rfl rfl ?_
            refine x_getr C fl_X3_133 (Or.inr ⟨_, rfl⟩) dX3_sight_72 75 rfl hS.1 (twR_shuts hS) ?_
            refine x_aloadr_n C dX3_sight_75 76 rfl rfl ?_
            refine x_geti C fl_X3_405 (Or.inl rfl) dX3_sight_76 79 rfl hS.1 (Eq.refl (nI (sn I + 1))) ?_
            refine x_iload_n C dX3_sight_79 80 rfl rfl ?_
            refine x_iast C dX3_sight_80 81 rfl (twA_shuts hS) (twN_shuts hS) rfl (by omega) (by decide) ?_
            refine x_aloadr_n C dX3_sight_81 82 rfl rfl ?_
            refine x_getr C fl_X3_136 (Or.inr ⟨_, rfl⟩) dX3_sight_82 85 rfl hS.1 (twR_stay hS) ?_
            refine x_aloadr_n C dX3_sight_85 86 rfl rfl ?_
            refine x_geti C fl_X3_405 (Or.inl rfl) dX3_sight_86 89 rfl hS.1 (Eq.refl (nI (sn I + 1))) ?_
            refine x_iload_n C dX3_sight_89 90 rfl rfl ?_
            refine x_iast C dX3_sight_90 91 rfl (twA_stay hS) (twN_stay hS) rfl (by omega) (by decide) ?_
            refine x_aloadr_n C dX3_sight_91 92 rfl rfl ?_
            refine x_geti C fl_X3_405 (Or.inl rfl) dX3_sight_92 95 rfl hS.1 (Eq.refl (nI (sn I + 1))) ?_
            exact x_iret C dX3_sight_95 (Nat.le_refl _) (Nat.le_refl _) (Qm_of (by simp [sp_sight, no1, h8, h19, h30, h37, h46, e46]))
          · have e46 : I 473 63 = nI 6 := by rw [es, h46]
            refine x_icm C dX3_sight_49 50 rfl ?_
            exact x_iret C dX3_sight_50 (Nat.le_refl _) (Nat.le_refl _) (Qm_of (by simp [sp_sight, no1, h8, h19, h30, h37, h46, e46]))
theorem kX3_way (hS : twS S) (hI : Tok I) {a b m : Int32} : Ct w l yX3_way cX3_way 4 (some .boolean) 2 0 0 [.ref 473, .int a, .int b, .int m] S I J (Qm (sp_way I a b m) S J) := by
  refine Ct.of [some _, some _, some _, some _] rfl (Nat.le_of_ble_eq_true rfl) (by decide) ?_
  intro κ hκ C
  subst hκ
  have hp10 := tk_p2 hI
  have ht6 := tk_t2 hI
  have hg30 := tk_g2 hI
  have hc30 := tk_c2 hI
  have hn500 := tk_n2 hI
  have hs6 := tk_s2 hI
  have es := tk_s hI
  refine x_iload_n C dX3_way_0 1 rfl rfl ?_
  refine x_ic (j := 0) C dX3_way_1 2 rfl ?_
  refine x_aloadr_n C dX3_way_2 3 rfl rfl ?_
  refine x_geti C fl_X3_405 (Or.inl rfl) dX3_way_3 6 rfl hS.1 rfl ?_
  refine x_callS C lk_X3_160 dX3_way_6 9 rfl [_, _, _] [] rfl rfl (Nat.le_of_ble_eq_true rfl) (by decide) (Nat.le_refl _) (Nat.le_refl _) kX3_in ?_
  rintro _ _ _ _ ⟨rfl, rfl, rfl, rfl⟩
  refine x_ifeqZ C dX3_way_9 12 40 rfl (by decide) (fun h9 => ?_) (fun h9 => ?_)
  · refine x_ic (j := 0) C dX3_way_40 41 rfl ?_
    exact x_zret C dX3_way_41 (Nat.le_refl _) (Nat.le_refl _) rfl (Qm_of (by simp [sp_way, no0, h9]))
  · refine x_iload_n C dX3_way_12 13 rfl rfl ?_
    refine x_ic (j := 0) C dX3_way_13 14 rfl ?_
    refine x_aloadr_n C dX3_way_14 15 rfl rfl ?_
    refine x_geti C fl_X3_405 (Or.inl rfl) dX3_way_15 18 rfl hS.1 rfl ?_
    refine x_callS C lk_X3_160 dX3_way_18 21 rfl [_, _, _] [] rfl rfl (Nat.le_of_ble_eq_true rfl) (by decide) (Nat.le_refl _) (Nat.le_refl _) kX3_in ?_
    rintro _ _ _ _ ⟨rfl, rfl, rfl, rfl⟩
    refine x_ifeqZ C dX3_way_21 24 40 rfl (by decide) (fun h21 => ?_) (fun h21 => ?_)
    · refine x_ic (j := 0) C dX3_way_40 41 rfl ?_
      exact x_zret C dX3_way_41 (Nat.le_refl _) (Nat.le_refl _) rfl (Qm_of (by simp [sp_way, no0, h9, h21]))
    · refine x_iload_n C dX3_way_24 25 rfl rfl ?_
      refine x_iload_n C dX3_way_25 26 rfl rfl ?_
      refine x_icmpeq C dX3_way_26 29 40 rfl (by decide) (fun h26 => ?_) (fun h26 => ?_)
      · refine x_ic (j := 0) C dX3_way_40 41 rfl ?_
        exact x_zret C dX3_way_41 (Nat.le_refl _) (Nat.le_refl _) rfl (Qm_of (by simp [sp_way, no0, h9, h21, h26]))
      · refine x_iload_n C dX3_way_29 30 rfl rfl ?_
        refine x_ic (j := 0) C dX3_way_30 31 rfl ?_
        refine x_sip (j := 270) C dX3_way_31 34 rfl (by decide) ?_
        refine x_callS C lk_X3_160 dX3_way_34 37 rfl [_, _, _] [] rfl rfl (Nat.le_of_ble_eq_true rfl) (by decide) (Nat.le_refl _) (Nat.le_refl _) kX3_in ?_
        rintro _ _ _ _ ⟨rfl, rfl, rfl, rfl⟩
        refine x_ifneZ C dX3_way_37 40 42 rfl (by decide) (fun h37 => ?_) (fun h37 => ?_)
        · have h9' := h9
          have h21' := h21
          rw [es] at h9' h21'
          obtain ⟨a, -, ha, rfl⟩ := in_ex (by decide) (by omega) h9'
          obtain ⟨b, -, hb, rfl⟩ := in_ex (by decide) (by omega) h21'
          have ea : nt (nI a) = a := nt_nI (by omega)
          have eb : nt (nI b) = b := nt_nI (by omega)
          refine x_aloadr_n C dX3_way_42 43 rfl rfl ?_
          refine x_getr C fl_X3_139 (Or.inr ⟨_, rfl⟩) dX3_way_43 46 rfl hS.1 (twR_way hS) ?_
          refine x_bip (j := 7) C dX3_way_46 48 rfl (by decide) ?_
          refine x_iload_n C dX3_way_48 49 rfl rfl ?_
          refine x_imul C dX3_way_49 50 rfl (pk_mul _ _) ?_
          refine x_iload_n C dX3_way_50 51 rfl rfl ?_
          refine x_iadd C dX3_way_51 52 rfl (nI_add _ _) ?_
          refine x_iload_n C dX3_way_52 53 rfl rfl ?_
          refine x_iast C dX3_way_53 54 rfl (twA_way hS) (twN_way hS) rfl (by omega) (by decide) ?_
          refine x_ic (j := 1) C dX3_way_54 55 rfl ?_
          exact x_zret C dX3_way_55 (Nat.le_refl _) (Nat.le_refl _) rfl (Qm_of (by simp [sp_way, no0, h9, h21, h26, h37, ea, eb]))
        · refine x_ic (j := 0) C dX3_way_40 41 rfl ?_
          exact x_zret C dX3_way_41 (Nat.le_refl _) (Nat.le_refl _) rfl (Qm_of (by simp [sp_way, no0, h9, h21, h26, h37]))
theorem kX3_clear (hS : twS S) : Ct w l yX3_clear cX3_clear 3 (some .int) 1 0 0 [.ref 473] S I J (Qm (sp_clear I) S J) := by
  refine Ct.of [some _, none, none] rfl (Nat.le_of_ble_eq_true rfl) (by decide) ?_
  intro κ hκ C
  subst hκ
  refine x_aloadr_n C dX3_clear_0 1 rfl rfl ?_
  refine x_geti C fl_X3_405 (Or.inl rfl) dX3_clear_1 4 rfl hS.1 rfl ?_
  refine x_istore_n C dX3_clear_4 5 rfl [_, _, _] (by decide) rfl rfl ?_
  refine x_aloadr_n C dX3_clear_5 6 rfl rfl ?_
  refine x_ic (j := 0) C dX3_clear_6 7 rfl ?_
  refine x_puti C fl_X3_405 (Or.inl rfl) (Or.inl rfl) dX3_clear_7 10 rfl hS.1 ?_
  refine x_ic (j := 0) C dX3_clear_10 11 rfl ?_
  refine x_istore_n C dX3_clear_11 12 rfl [_, _, _] (by decide) rfl rfl ?_
  have hloop12 : ∀ (j k : Nat), k + j = 49 → XX w κ (Zr w κ (Qm (sp_clear I) S J)) 0 0 12 [some (.ref 473), some (.int (I 473 63)), some (.int (nI k))] [] S (clrS I k) J := by
    intro j
    induction j with
    | zero =>
      intro k  e12
      have e12 : 49 = k := Eq.symm e12
      subst e12
      refine x_iload_n C dX3_clear_12 13 rfl rfl ?_
      refine x_bip (j := 49) C dX3_clear_13 15 rfl (by decide) ?_
      refine x_icmpgeN C dX3_clear_15 18 31 rfl (by decide) (by omega) (by omega) (fun _ => ?_) (fun h15 => absurd h15 (by omega))
      refine x_iload_n C dX3_clear_31 32 rfl rfl ?_
      exact x_iret C dX3_clear_32 (Nat.le_refl _) (Nat.le_refl _) (Qm_of rfl)
    | succ j ih12 =>
      intro k  e12
      refine x_iload_n C dX3_clear_12 13 rfl rfl ?_
      refine x_bip (j := 49) C dX3_clear_13 15 rfl (by decide) ?_
      refine x_icmpgeN C dX3_clear_15 18 31 rfl (by decide) (by omega) (by omega) (fun h15 => absurd h15 (by omega)) (fun _ => ?_)
      refine x_aloadr_n C dX3_clear_18 19 rfl rfl ?_
      refine x_getr C fl_X3_139 (Or.inr ⟨_, rfl⟩) dX3_clear_19 22 rfl hS.1 (twR_way hS) ?_
      refine x_iload_n C dX3_clear_22 23 rfl rfl ?_
      refine x_ic (j := 0) C dX3_clear_23 24 rfl ?_
      refine x_iast C dX3_clear_24 25 rfl (twA_way hS) (twN_way hS) rfl (by omega) (by decide) ?_
      refine x_iinc C dX3_clear_25 28 rfl [_, _, _] (nI_inc _) (by decide) rfl rfl rfl ?_
      refine x_goto C dX3_clear_28 12 (by decide) ?_
      refine x_eqI (by rfl) (ih12 (k + 1) (by omega))
  exact hloop12 49 0 (Nat.zero_add _)
theorem kX3_tripOf (hS : twS S) (htm : nOk (I 473 71) 6) {k : Int32} : Ct w l yX3_tripOf cX3_tripOf 2 (some .int) 2 0 0 [.ref 473, .int k] S I J (Qe (some (.int (sp_tripOf I k))) S I J) := by
  refine Ct.of [some _, some _] rfl (Nat.le_of_ble_eq_true rfl) (by decide) ?_
  intro κ hκ C
  subst hκ
  have htm2 := htm.2
  refine x_aloadr_n C dX3_tripOf_0 1 rfl rfl ?_
  refine x_geti C fl_X3_428 (Or.inr (Or.inl rfl)) dX3_tripOf_1 4 rfl hS.1 rfl ?_
  refine x_ifne C dX3_tripOf_4 7 9 rfl (by decide) (fun h4 => ?_) (fun h4 => ?_)
  · refine x_iload_n C dX3_tripOf_9 10 rfl rfl ?_
    refine x_bip (j := 10) C dX3_tripOf_10 12 rfl (by decide) ?_
    refine x_bip (j := 9) C dX3_tripOf_12 14 rfl (by decide) ?_
    refine x_aloadr_n C dX3_tripOf_14 15 rfl rfl ?_
    refine x_geti C fl_X3_416 (Or.inl rfl) dX3_tripOf_15 18 rfl hS.1 rfl ?_
    refine x_iadd C dX3_tripOf_18 19 rfl rfl ?_
    refine x_callS C lk_X3_160 dX3_tripOf_19 22 rfl [_, _, _] [] rfl rfl (Nat.le_of_ble_eq_true rfl) (by decide) (Nat.le_refl _) (Nat.le_refl _) kX3_in ?_
    rintro _ _ _ _ ⟨rfl, rfl, rfl, rfl⟩
    refine x_ifeqZ C dX3_tripOf_22 25 35 rfl (by decide) (fun h22 => ?_) (fun h22 => ?_)
    · refine x_iload_n C dX3_tripOf_35 36 rfl rfl ?_
      refine x_bip (j := 20) C dX3_tripOf_36 38 rfl (by decide) ?_
      refine x_bip (j := 19) C dX3_tripOf_38 40 rfl (by decide) ?_
      refine x_aloadr_n C dX3_tripOf_40 41 rfl rfl ?_
      refine x_geti C fl_X3_416 (Or.inl rfl) dX3_tripOf_41 44 rfl hS.1 rfl ?_
      refine x_iadd C dX3_tripOf_44 45 rfl rfl ?_
      refine x_callS C lk_X3_160 dX3_tripOf_45 48 rfl [_, _, _] [] rfl rfl (Nat.le_of_ble_eq_true rfl) (by decide) (Nat.le_refl _) (Nat.le_refl _) kX3_in ?_
      rintro _ _ _ _ ⟨rfl, rfl, rfl, rfl⟩
      refine x_ifeqZ C dX3_tripOf_48 51 61 rfl (by decide) (fun h48 => ?_) (fun h48 => ?_)
      · refine x_iload_n C dX3_tripOf_61 62 rfl rfl ?_
        refine x_ifne C dX3_tripOf_62 65 72 rfl (by decide) (fun h62 => ?_) (fun h62 => ?_)
        · refine x_iload_n C dX3_tripOf_72 73 rfl rfl ?_
          refine x_ic (j := 1) C dX3_tripOf_73 74 rfl ?_
          refine x_icmpne C dX3_tripOf_74 77 84 rfl (by decide) (fun h74 => ?_) (fun h74 => ?_)
          · refine x_iload_n C dX3_tripOf_84 85 rfl rfl ?_
            refine x_ic (j := 2) C dX3_tripOf_85 86 rfl ?_
            refine x_icmpne C dX3_tripOf_86 89 96 rfl (by decide) (fun h86 => ?_) (fun h86 => ?_)
            · refine x_icm C dX3_tripOf_96 97 rfl ?_
              exact x_iret C dX3_tripOf_97 (Nat.le_refl _) (Nat.le_refl _) (Qe_of (by simp [sp_tripOf, h4, h22, h48, h62, h74, h86]))
            · have e86 := eq_true h86
              refine x_aloadr_n C dX3_tripOf_89 90 rfl rfl ?_
              refine x_geti C fl_X3_425 (Or.inl rfl) dX3_tripOf_90 93 rfl hS.1 rfl ?_
              refine x_goto C dX3_tripOf_93 97 (by decide) ?_
              exact x_iret C dX3_tripOf_97 (Nat.le_refl _) (Nat.le_refl _) (Qe_of (by simp [sp_tripOf, h4, h22, h48, h62, h74, e86]))
          · have e74 := eq_true h74
            refine x_aloadr_n C dX3_tripOf_77 78 rfl rfl ?_
            refine x_geti C fl_X3_422 (Or.inl rfl) dX3_tripOf_78 81 rfl hS.1 rfl ?_
            refine x_goto C dX3_tripOf_81 97 (by decide) ?_
            exact x_iret C dX3_tripOf_97 (Nat.le_refl _) (Nat.le_refl _) (Qe_of (by simp [sp_tripOf, h4, h22, h48, h62, e74]))
        · have e62 := eq_true h62
          refine x_aloadr_n C dX3_tripOf_65 66 rfl rfl ?_
          refine x_geti C fl_X3_419 (Or.inl rfl) dX3_tripOf_66 69 rfl hS.1 rfl ?_
          refine x_goto C dX3_tripOf_69 97 (by decide) ?_
          exact x_iret C dX3_tripOf_97 (Nat.le_refl _) (Nat.le_refl _) (Qe_of (by simp [sp_tripOf, h4, h22, h48, e62]))
      · have h48' := h48
        rw [htm.1, nI_add] at h48'
        obtain ⟨k, hk1, hk2, rfl⟩ := in_ex (by decide) (by omega) h48'
        have e : nI k - nI 20 = nI (k - 20) := pk_sub (by omega)
        have e2 : nt (nI (k - 20)) = k - 20 := nt_nI (by omega)
        refine x_aloadr_n C dX3_tripOf_51 52 rfl rfl ?_
        refine x_getr C fl_X3_151 (Or.inr ⟨_, rfl⟩) dX3_tripOf_52 55 rfl hS.1 (twR_tripBegins hS) ?_
        refine x_iload_n C dX3_tripOf_55 56 rfl rfl ?_
        refine x_bip (j := 20) C dX3_tripOf_56 58 rfl (by decide) ?_
        refine x_isub C dX3_tripOf_58 59 rfl (pk_sub (by omega)) ?_
        refine x_iald C dX3_tripOf_59 60 rfl (twA_tripBegins hS) (twN_tripBegins hS) rfl (by omega) (by decide) rfl ?_
        exact x_iret C dX3_tripOf_60 (Nat.le_refl _) (Nat.le_refl _) (Qe_of (by simp [sp_tripOf, h4, h22, h48, e, e2]))
    · have h22' := h22
      rw [htm.1, nI_add] at h22'
      obtain ⟨k, hk1, hk2, rfl⟩ := in_ex (by decide) (by omega) h22'
      have e : nI k - nI 10 = nI (k - 10) := pk_sub (by omega)
      have e2 : nt (nI (k - 10)) = k - 10 := nt_nI (by omega)
      refine x_aloadr_n C dX3_tripOf_25 26 rfl rfl ?_
      refine x_getr C fl_X3_148 (Or.inr ⟨_, rfl⟩) dX3_tripOf_26 29 rfl hS.1 (twR_tripSight hS) ?_
      refine x_iload_n C dX3_tripOf_29 30 rfl rfl ?_
      refine x_bip (j := 10) C dX3_tripOf_30 32 rfl (by decide) ?_
      refine x_isub C dX3_tripOf_32 33 rfl (pk_sub (by omega)) ?_
      refine x_iald C dX3_tripOf_33 34 rfl (twA_tripSight hS) (twN_tripSight hS) rfl (by omega) (by decide) rfl ?_
      exact x_iret C dX3_tripOf_34 (Nat.le_refl _) (Nat.le_refl _) (Qe_of (by simp [sp_tripOf, h4, h22, e, e2]))
  · refine x_icm C dX3_tripOf_7 8 rfl ?_
    exact x_iret C dX3_tripOf_8 (Nat.le_refl _) (Nat.le_refl _) (Qe_of (by simp [sp_tripOf, h4]))
theorem kX3_isLoss (hS : twS S) {t d up dw sm : Int32} : Ct w l yX3_isLoss cX3_isLoss 6 (some .boolean) 3 0 0 [.ref 473, .int t, .int d, .int up, .int dw, .int sm] S I J (Qe (some (.int (bz (loB I t d up dw sm)))) S I J) := by
  refine Ct.of [some _, some _, some _, some _, some _, some _] rfl (Nat.le_of_ble_eq_true rfl) (by decide) ?_
  intro κ hκ C
  subst hκ
  refine x_aloadr_n C dX3_isLoss_0 1 rfl rfl ?_
  refine x_iload_n C dX3_isLoss_1 2 rfl rfl ?_
  refine x_callV C lk_X3_170 dX3_isLoss_2 5 rfl [_] [] rfl rfl hS.1 (Nat.le_of_ble_eq_true rfl) (by decide) (Nat.le_refl _) (Nat.le_refl _) (kX3_isTown hS) ?_
  rintro _ _ _ _ ⟨rfl, rfl, rfl, rfl⟩
  refine x_ifeqZ C dX3_isLoss_5 8 53 rfl (by decide) (fun h5 => ?_) (fun h5 => ?_)
  · refine x_ic (j := 0) C dX3_isLoss_53 54 rfl ?_
    exact x_zret C dX3_isLoss_54 (Nat.le_refl _) (Nat.le_refl _) rfl (Qz_of (by simp [loB, bzt, bzf, h5]))
  · refine x_iload_n C dX3_isLoss_8 9 rfl rfl ?_
    refine x_ic (j := 0) C dX3_isLoss_9 10 rfl ?_
    refine x_bip (j := 30) C dX3_isLoss_10 12 rfl (by decide) ?_
    refine x_callS C lk_X3_160 dX3_isLoss_12 15 rfl [_, _, _] [] rfl rfl (Nat.le_of_ble_eq_true rfl) (by decide) (Nat.le_refl _) (Nat.le_refl _) kX3_in ?_
    rintro _ _ _ _ ⟨rfl, rfl, rfl, rfl⟩
    refine x_ifeqZ C dX3_isLoss_15 18 53 rfl (by decide) (fun h15 => ?_) (fun h15 => ?_)
    · refine x_ic (j := 0) C dX3_isLoss_53 54 rfl ?_
      exact x_zret C dX3_isLoss_54 (Nat.le_refl _) (Nat.le_refl _) rfl (Qz_of (by simp [loB, bzt, bzf, h5, h15]))
    · refine x_iload_n C dX3_isLoss_18 19 rfl rfl ?_
      refine x_ic (j := 0) C dX3_isLoss_19 20 rfl ?_
      refine x_ic (j := 3) C dX3_isLoss_20 21 rfl ?_
      refine x_callS C lk_X3_160 dX3_isLoss_21 24 rfl [_, _, _] [] rfl rfl (Nat.le_of_ble_eq_true rfl) (by decide) (Nat.le_refl _) (Nat.le_refl _) kX3_in ?_
      rintro _ _ _ _ ⟨rfl, rfl, rfl, rfl⟩
      refine x_ifeqZ C dX3_isLoss_24 27 53 rfl (by decide) (fun h24 => ?_) (fun h24 => ?_)
      · refine x_ic (j := 0) C dX3_isLoss_53 54 rfl ?_
        exact x_zret C dX3_isLoss_54 (Nat.le_refl _) (Nat.le_refl _) rfl (Qz_of (by simp [loB, bzt, bzf, h5, h15, h24]))
      · refine x_iload C dX3_isLoss_27 29 rfl rfl ?_
        refine x_ic (j := 0) C dX3_isLoss_29 30 rfl ?_
        refine x_ic (j := 3) C dX3_isLoss_30 31 rfl ?_
        refine x_callS C lk_X3_160 dX3_isLoss_31 34 rfl [_, _, _] [] rfl rfl (Nat.le_of_ble_eq_true rfl) (by decide) (Nat.le_refl _) (Nat.le_refl _) kX3_in ?_
        rintro _ _ _ _ ⟨rfl, rfl, rfl, rfl⟩
        refine x_ifeqZ C dX3_isLoss_34 37 53 rfl (by decide) (fun h34 => ?_) (fun h34 => ?_)
        · refine x_ic (j := 0) C dX3_isLoss_53 54 rfl ?_
          exact x_zret C dX3_isLoss_54 (Nat.le_refl _) (Nat.le_refl _) rfl (Qz_of (by simp [loB, bzt, bzf, h5, h15, h24, h34]))
        · refine x_iload C dX3_isLoss_37 39 rfl rfl ?_
          refine x_ic (j := 0) C dX3_isLoss_39 40 rfl ?_
          refine x_sip (j := 1000) C dX3_isLoss_40 43 rfl (by decide) ?_
          refine x_callS C lk_X3_160 dX3_isLoss_43 46 rfl [_, _, _] [] rfl rfl (Nat.le_of_ble_eq_true rfl) (by decide) (Nat.le_refl _) (Nat.le_refl _) kX3_in ?_
          rintro _ _ _ _ ⟨rfl, rfl, rfl, rfl⟩
          refine x_ifeqZ C dX3_isLoss_46 49 53 rfl (by decide) (fun h46 => ?_) (fun h46 => ?_)
          · refine x_ic (j := 0) C dX3_isLoss_53 54 rfl ?_
            exact x_zret C dX3_isLoss_54 (Nat.le_refl _) (Nat.le_refl _) rfl (Qz_of (by simp [loB, bzt, bzf, h5, h15, h24, h34, h46]))
          · refine x_ic (j := 1) C dX3_isLoss_49 50 rfl ?_
            refine x_goto C dX3_isLoss_50 54 (by decide) ?_
            exact x_zret C dX3_isLoss_54 (Nat.le_refl _) (Nat.le_refl _) rfl (Qz_of (by simp [loB, bzt, bzf, h5, h15, h24, h34, h46]))
theorem kX3_part_2 (hS : twS S) {t r : Nat} (ht : t < 6) (hr : r < 10) {h : Int32} : Ct w l yX3_part_2 cX3_part_2 4 (some .int) 1 0 0 [.ref 473, .int (nI t), .int (nI r), .int h] S I J (Qe (some (.int (prt I t r h))) S I J) := by
  refine Ct.of [some _, some _, some _, some _] rfl (Nat.le_of_ble_eq_true rfl) (by decide) ?_
  intro κ hκ C
  subst hκ
  refine x_aloadr_n C dX3_part_2_0 1 rfl rfl ?_
  refine x_getr C fl_X3_60 (Or.inr ⟨_, rfl⟩) dX3_part_2_1 4 rfl hS.1 (twR_price hS) ?_
  refine x_bip (j := 10) C dX3_part_2_4 6 rfl (by decide) ?_
  refine x_iload_n C dX3_part_2_6 7 rfl rfl ?_
  refine x_imul C dX3_part_2_7 8 rfl (pk_mul _ _) ?_
  refine x_iload_n C dX3_part_2_8 9 rfl rfl ?_
  refine x_iadd C dX3_part_2_9 10 rfl (nI_add _ _) ?_
  refine x_iald C dX3_part_2_10 11 rfl (twA_price hS) (twN_price hS) rfl (by omega) (by decide) rfl ?_
  refine x_aloadr_n C dX3_part_2_11 12 rfl rfl ?_
  refine x_getr C fl_X3_45 (Or.inr ⟨_, rfl⟩) dX3_part_2_12 15 rfl hS.1 (twR_long0 hS) ?_
  refine x_iload_n C dX3_part_2_15 16 rfl rfl ?_
  refine x_iald C dX3_part_2_16 17 rfl (twA_long0 hS) (twN_long0 hS) rfl (by omega) (by decide) rfl ?_
  refine x_imul C dX3_part_2_17 18 rfl rfl ?_
  refine x_iload_n C dX3_part_2_18 19 rfl rfl ?_
  refine x_imul C dX3_part_2_19 20 rfl rfl ?_
  refine x_bip (j := 99) C dX3_part_2_20 22 rfl (by decide) ?_
  refine x_iadd C dX3_part_2_22 23 rfl rfl ?_
  refine x_bip (j := 100) C dX3_part_2_23 25 rfl (by decide) ?_
  refine x_idiv C dX3_part_2_25 26 rfl (by decide) rfl ?_
  exact x_iret C dX3_part_2_26 (Nat.le_refl _) (Nat.le_refl _) ⟨rfl, rfl, rfl, rfl⟩
theorem kX3_owes (hS : twS S) {k p : Nat} (hk : k < 30) (hp : p < 10) {s f : Int32} : Ct w l yX3_owes cX3_owes 5 none 1 0 0 [.ref 473, .int (nI k), .int (nI p), .int s, .int f] S I J (Qv (owS I k p s f) S J) := by
  refine Ct.of [some _, some _, some _, some _, some _] rfl (Nat.le_of_ble_eq_true rfl) (by decide) ?_
  intro κ hκ C
  subst hκ
  refine x_aloadr_n C dX3_owes_0 1 rfl rfl ?_
  refine x_getr C fl_X3_87 (Or.inr ⟨_, rfl⟩) dX3_owes_1 4 rfl hS.1 (twR_owed hS) ?_
  refine x_iload_n C dX3_owes_4 5 rfl rfl ?_
  refine x_dup2 C dX3_owes_5 6 rfl ⟨rfl, rfl⟩ ?_
  refine x_iald C dX3_owes_6 7 rfl (twA_owed hS) (twN_owed hS) rfl (by omega) (by decide) rfl ?_
  refine x_aloadr_n C dX3_owes_7 8 rfl rfl ?_
  refine x_getr C fl_X3_78 (Or.inr ⟨_, rfl⟩) dX3_owes_8 11 rfl hS.1 (twR_isAbsent hS) ?_
  refine x_bip (j := 10) C dX3_owes_11 13 rfl (by decide) ?_
  refine x_iload_n C dX3_owes_13 14 rfl rfl ?_
  refine x_imul C dX3_owes_14 15 rfl (pk_mul _ _) ?_
  refine x_iload_n C dX3_owes_15 16 rfl rfl ?_
  refine x_iadd C dX3_owes_16 17 rfl (nI_add _ _) ?_
  refine x_zald C dX3_owes_17 18 rfl (twA_isAbsent hS) (twN_isAbsent hS) rfl (by omega) (by decide) rfl ?_
  refine x_ifeq C dX3_owes_18 21 33 rfl (by decide) (fun h18 => ?_) (fun h18 => ?_)
  · refine x_iload_n C dX3_owes_33 34 rfl rfl ?_
    refine x_iadd C dX3_owes_34 35 rfl rfl ?_
    refine x_iast C dX3_owes_35 36 rfl (twA_owed hS) (twN_owed hS) rfl (by omega) (by decide) ?_
    exact x_vret C dX3_owes_36 (Nat.le_refl _) (Nat.le_refl _) (Qv_of (by simp [owS, h18]))
  · refine x_iload_n C dX3_owes_21 22 rfl rfl ?_
    refine x_iload_n C dX3_owes_22 23 rfl rfl ?_
    refine x_iload C dX3_owes_23 25 rfl rfl ?_
    refine x_imul C dX3_owes_25 26 rfl rfl ?_
    refine x_bip (j := 100) C dX3_owes_26 28 rfl (by decide) ?_
    refine x_idiv C dX3_owes_28 29 rfl (by decide) rfl ?_
    refine x_isub C dX3_owes_29 30 rfl rfl ?_
    refine x_goto C dX3_owes_30 34 (by decide) ?_
    refine x_iadd C dX3_owes_34 35 rfl rfl ?_
    refine x_iast C dX3_owes_35 36 rfl (twA_owed hS) (twN_owed hS) rfl (by omega) (by decide) ?_
    exact x_vret C dX3_owes_36 (Nat.le_refl _) (Nat.le_refl _) (Qv_of (by simp [owS, h18]))
end Tw6

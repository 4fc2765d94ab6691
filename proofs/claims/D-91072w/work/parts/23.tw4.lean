/-! the twin: lists and notes -/
def noteS (I : Mi) (t p : Nat) (room : Int32) : Mi := sto (sto (sto (sto (sto I 490 (10 * t + p) room) 491 (nt (I 473 26)) (I 473 14)) 492 (nt (I 473 26)) (nI (10 * t + p))) 493 (nt (I 473 26)) room) 473 26 (I 473 26 + nI 1)
def noteT (I : Mi) (t p : Nat) (room : Int32) : Mi := if I 490 (10 * t + p) = room then I else noteS I t p room
/-- no answer, a new memory -/
abbrev Qv (q : Mi) (S : Sh) (J : Ml) : Option Value → Sh → Mi → Ml → Prop := fun r S' I' J' => r = none ∧ S = S' ∧ q = I' ∧ J = J'
theorem Qv_of {q I' : Mi} {S : Sh} {J : Ml} (h : q = I') : Qv q S J none S I' J := by
  subst h
  exact ⟨rfl, rfl, rfl, rfl⟩
/-- where a person falls off the list of a town -/
def lvP (I : Mi) (p : Nat) (fr tt : Int32) (t : Nat) : Bool := !ovB I t && !inB (nI t) fr tt && decide (¬ I 490 (10 * t + p) = -1)
def lvS (I : Mi) (p : Nat) (fr tt : Int32) : Nat → Mi
  | 0 => I
  | t + 1 => if lvP I p fr tt t then noteS (lvS I p fr tt t) t p (-1) else lvS I p fr tt t
def sp_leaves (I : Mi) (p : Nat) (fr tt : Int32) (m : Nat) : Bool × Mi := if nt (I 473 26) + cnt (lvP I p fr tt) m ≤ 500 then (true, lvS I p fr tt m) else (false, I)
abbrev Qb (q : Bool × Mi) (S : Sh) (J : Ml) : Option Value → Sh → Mi → Ml → Prop := fun r S' I' J' => r = some (.int (bz q.1)) ∧ S = S' ∧ q.2 = I' ∧ J = J'
theorem Qb_of {q : Bool × Mi} {b : Bool} {S : Sh} {I' : Mi} {J : Ml} (h : q = (b, I')) : Qb q S J (some (.int (bz b))) S I' J := by
  subst h
  exact ⟨rfl, rfl, rfl, rfl⟩
/-- what notes leave as it was -/
theorem noteS_row (I : Mi) (t p : Nat) (room : Int32) {a : Nat} (h : a ≠ 473 ∧ a ≠ 490 ∧ a ≠ 491 ∧ a ≠ 492 ∧ a ≠ 493) : noteS I t p room a = I a := by
  unfold noteS
  rw [sto_n _ _ _ h.1, sto_n _ _ _ h.2.2.2.2, sto_n _ _ _ h.2.2.2.1, sto_n _ _ _ h.2.2.1, sto_n _ _ _ h.2.1]
theorem noteS_473 (I : Mi) (t p : Nat) (room : Int32) {i : Nat} (h : i ≠ 26) : noteS I t p room 473 i = I 473 i := by
  unfold noteS
  rw [sto_kn _ _ _ _ h]
  rfl
theorem noteS_cnt (I : Mi) (t p : Nat) (room : Int32) : noteS I t p room 473 26 = I 473 26 + nI 1 := by
  unfold noteS
  rw [sto_ss]
theorem noteS_list (I : Mi) (t p : Nat) (room : Int32) (i : Nat) : noteS I t p room 490 i = if i = 10 * t + p then room else I 490 i := by
  show sto I 490 (10 * t + p) room 490 i = _
  rw [sto_at]
  simp
theorem lvS_row (I : Mi) (p : Nat) (fr tt : Int32) {a : Nat} (h : a ≠ 473 ∧ a ≠ 490 ∧ a ≠ 491 ∧ a ≠ 492 ∧ a ≠ 493) (t : Nat) : lvS I p fr tt t a = I a := by
  induction t with
  | zero => rfl
  | succ t ih =>
    unfold lvS
    split
    · rw [noteS_row _ _ _ _ h, ih]
    · exact ih
theorem lvS_473 (I : Mi) (p : Nat) (fr tt : Int32) {i : Nat} (h : i ≠ 26) (t : Nat) : lvS I p fr tt t 473 i = I 473 i := by
  induction t with
  | zero => rfl
  | succ t ih =>
    unfold lvS
    split
    · rw [noteS_473 _ _ _ _ h, ih]
    · exact ih
theorem lvS_cnt (I : Mi) (p : Nat) (fr tt : Int32) {k : Nat} (hk : I 473 26 = nI k) (t : Nat) : lvS I p fr tt t 473 26 = nI (k + cnt (lvP I p fr tt) t) := by
  induction t with
  | zero => exact hk
  | succ t ih =>
    unfold lvS
    split
    · rename_i h
      rw [noteS_cnt, ih, cnt_t h, nI_add, Nat.add_assoc]
    · rename_i h
      rw [ih, cnt_f (by simpa using h)]
theorem lvS_list (I : Mi) (p : Nat) (hp : p < 10) (fr tt : Int32) (i : Nat) (t : Nat) (hi : 10 * t ≤ i) : lvS I p fr tt t 490 i = I 490 i := by
  induction t with
  | zero => rfl
  | succ t ih =>
    unfold lvS
    split
    · rw [noteS_list, if_neg (by omega), ih (by omega)]
    · exact ih (by omega)
theorem cnt_mono (P : Nat → Bool) {a b : Nat} (h : a ≤ b) : cnt P a ≤ cnt P b := by
  induction b with
  | zero => rw [Nat.le_zero.mp h]; exact Nat.le_refl _
  | succ b ih =>
    rcases Nat.lt_or_ge b a with q | q
    · rw [show a = b + 1 by omega]; exact Nat.le_refl _
    · exact Nat.le_trans (ih q) (Nat.le_add_right _ _)
section Tw4
variable {w : Wd} {l : Launch} {S : Sh} {I : Mi} {J : Ml}
theorem kX3_notes (hS : twS S) {t p k : Nat} {room : Int32} (ht : t < 6) (hp : p < 10) (hk : I 473 26 = nI k) (hk2 : ¬ I 490 (10 * t + p) = room → k < 500) : Ct w l yX3_notes cX3_notes 5 none 1 0 0 [.ref 473, .int (nI t), .int (nI p), .int room] S I J (Qv (noteT I t p room) S J) := by
  refine Ct.of [some _, some _, some _, some _, none] rfl (Nat.le_of_ble_eq_true rfl) (by decide) ?_
  intro κ hκ C
  subst hκ
  refine x_bip (j := 10) C dX3_notes_0 2 rfl (by decide) ?_
  refine x_iload_n C dX3_notes_2 3 rfl rfl ?_
  refine x_imul C dX3_notes_3 4 rfl (pk_mul _ _) ?_
  refine x_iload_n C dX3_notes_4 5 rfl rfl ?_
  refine x_iadd C dX3_notes_5 6 rfl (nI_add _ _) ?_
  refine x_istore C dX3_notes_6 8 rfl [_, _, _, _, _] (by decide) rfl rfl ?_
  refine x_aloadr_n C dX3_notes_8 9 rfl rfl ?_
  refine x_getr C fl_X3_66 (Or.inr ⟨_, rfl⟩) dX3_notes_9 12 rfl hS.1 (twR_list hS) ?_
  refine x_iload C dX3_notes_12 14 rfl rfl ?_
  refine x_iald C dX3_notes_14 15 rfl (twA_list hS) (twN_list hS) rfl (by omega) (by decide) rfl ?_
  refine x_iload_n C dX3_notes_15 16 rfl rfl ?_
  refine x_icmpne C dX3_notes_16 19 20 rfl (by decide) (fun h16 => ?_) (fun h16 => ?_)
  · have hk3 := hk2 h16
    have e : nt (I 473 26) = k := nt_of hk (by omega)
    refine x_aloadr_n C dX3_notes_20 21 rfl rfl ?_
    refine x_getr C fl_X3_66 (Or.inr ⟨_, rfl⟩) dX3_notes_21 24 rfl hS.1 (twR_list hS) ?_
    refine x_iload C dX3_notes_24 26 rfl rfl ?_
    refine x_iload_n C dX3_notes_26 27 rfl rfl ?_
    refine x_iast C dX3_notes_27 28 rfl (twA_list hS) (twN_list hS) rfl (by omega) (by decide) ?_
    refine x_aloadr_n C dX3_notes_28 29 rfl rfl ?_
    refine x_getr C fl_X3_69 (Or.inr ⟨_, rfl⟩) dX3_notes_29 32 rfl hS.1 (twR_noteDay hS) ?_
    refine x_aloadr_n C dX3_notes_32 33 rfl rfl ?_
    refine x_geti C fl_X3_180 (Or.inl rfl) dX3_notes_33 36 rfl hS.1 hk ?_
    refine x_aloadr_n C dX3_notes_36 37 rfl rfl ?_
    refine x_geti C fl_X3_183 (Or.inl rfl) dX3_notes_37 40 rfl hS.1 rfl ?_
    refine x_iast C dX3_notes_40 41 rfl (twA_noteDay hS) (twN_noteDay hS) rfl (by omega) (by decide) ?_
    refine x_aloadr_n C dX3_notes_41 42 rfl rfl ?_
    refine x_getr C fl_X3_72 (Or.inr ⟨_, rfl⟩) dX3_notes_42 45 rfl hS.1 (twR_notePlace hS) ?_
    refine x_aloadr_n C dX3_notes_45 46 rfl rfl ?_
    refine x_geti C fl_X3_180 (Or.inl rfl) dX3_notes_46 49 rfl hS.1 hk ?_
    refine x_iload C dX3_notes_49 51 rfl rfl ?_
    refine x_iast C dX3_notes_51 52 rfl (twA_notePlace hS) (twN_notePlace hS) rfl (by omega) (by decide) ?_
    refine x_aloadr_n C dX3_notes_52 53 rfl rfl ?_
    refine x_getr C fl_X3_75 (Or.inr ⟨_, rfl⟩) dX3_notes_53 56 rfl hS.1 (twR_noteRoom hS) ?_
    refine x_aloadr_n C dX3_notes_56 57 rfl rfl ?_
    refine x_geti C fl_X3_180 (Or.inl rfl) dX3_notes_57 60 rfl hS.1 hk ?_
    refine x_iload_n C dX3_notes_60 61 rfl rfl ?_
    refine x_iast C dX3_notes_61 62 rfl (twA_noteRoom hS) (twN_noteRoom hS) rfl (by omega) (by decide) ?_
    refine x_aloadr_n C dX3_notes_62 63 rfl rfl ?_
    refine x_dup C dX3_notes_63 64 rfl rfl ?_
    refine x_geti C fl_X3_180 (Or.inl rfl) dX3_notes_64 67 rfl hS.1 hk ?_
    refine x_ic (j := 1) C dX3_notes_67 68 rfl ?_
    refine x_iadd C dX3_notes_68 69 rfl rfl ?_
    refine x_puti C fl_X3_180 (Or.inl rfl) (Or.inl rfl) dX3_notes_69 72 rfl hS.1 ?_
    exact x_vret C dX3_notes_72 (Nat.le_refl _) (Nat.le_refl _) (Qv_of (by unfold noteT; rw [if_neg h16]; unfold noteS; rw [e, hk]; rfl))
  ·
    exact x_vret C dX3_notes_19 (Nat.le_refl _) (Nat.le_refl _) (Qv_of (by unfold noteT; rw [if_pos h16]))
theorem kX3_leaves (hS : twS S) {m p k : Nat} {fr tt : Int32} (hm : I 473 11 = nI m) (hm2 : m ≤ 6) (hp : p < 10) (hk : I 473 26 = nI k) (hk2 : k ≤ 500) : Ct w l yX3_leaves cX3_leaves 6 (some .boolean) 2 0 0 [.ref 473, .int (nI p), .int fr, .int tt] S I J (Qb (sp_leaves I p fr tt m) S J) := by
  have ek : nt (I 473 26) = k := nt_of hk (by omega)
  refine Ct.of [some _, some _, some _, some _, none, none] rfl (Nat.le_of_ble_eq_true rfl) (by decide) ?_
  intro κ hκ C
  subst hκ
  refine x_ic (j := 0) C dX3_leaves_0 1 rfl ?_
  refine x_istore C dX3_leaves_1 3 rfl [_, _, _, _, _, _] (by decide) rfl rfl ?_
  refine x_ic (j := 0) C dX3_leaves_3 4 rfl ?_
  refine x_istore C dX3_leaves_4 6 rfl [_, _, _, _, _, _] (by decide) rfl rfl ?_
  have hloop2 : ∀ (c : Nat), k + cnt (lvP I p fr tt) m ≤ 500 → ∀ (j t : Nat), t + j = m → XX w κ (Zr w κ (Qb (sp_leaves I p fr tt m) S J)) 0 0 84 [some (.ref 473), some (.int (nI p)), some (.int fr), some (.int tt), some (.int (nI c)), some (.int (nI t))] [] S (lvS I p fr tt t) J := by
    intro c hb j
    induction j with
    | zero =>
      intro t ht
      have ht : t = m := ht
      subst ht
      refine x_iload C dX3_leaves_84 86 rfl rfl ?_
      refine x_aloadr_n C dX3_leaves_86 87 rfl rfl ?_
      refine x_geti C fl_X3_164 (Or.inl rfl) dX3_leaves_87 90 rfl hS.1 ((lvS_473 I p fr tt (by decide) _).trans hm) ?_
      refine x_icmpgeN C dX3_leaves_90 93 126 rfl (by decide) (by omega) (by omega) (fun _ => ?_) (fun h90 => absurd h90 (by omega))
      refine x_ic (j := 1) C dX3_leaves_126 127 rfl ?_
      exact x_zret C dX3_leaves_127 (Nat.le_refl _) (Nat.le_refl _) rfl (Qb_of (b := true) (by unfold sp_leaves; rw [ek, if_pos hb]))
    | succ j ih =>
      intro t ht
      have eov : ovB (lvS I p fr tt t) t = ovB I t := by
        unfold ovB
        rw [lvS_row I p fr tt (by decide) t, lvS_row I p fr tt (by decide) t, lvS_473 I p fr tt (by decide) t]
      have el : lvS I p fr tt t 490 (10 * t + p) = I 490 (10 * t + p) := lvS_list I p hp fr tt _ t (by omega)
      refine x_iload C dX3_leaves_84 86 rfl rfl ?_
      refine x_aloadr_n C dX3_leaves_86 87 rfl rfl ?_
      refine x_geti C fl_X3_164 (Or.inl rfl) dX3_leaves_87 90 rfl hS.1 ((lvS_473 I p fr tt (by decide) _).trans hm) ?_
      refine x_icmpgeN C dX3_leaves_90 93 126 rfl (by decide) (by omega) (by omega) (fun h90 => absurd h90 (by omega)) (fun _ => ?_)
      refine x_aloadr_n C dX3_leaves_93 94 rfl rfl ?_
      refine x_iload C dX3_leaves_94 96 rfl rfl ?_
      refine x_callV C lk_X3_174 dX3_leaves_96 99 rfl [_] [] rfl rfl hS.1 (Nat.le_of_ble_eq_true rfl) (by decide) (Nat.le_refl _) (Nat.le_refl _) (kX3_isOver hS (by omega)) ?_
      rintro _ _ _ _ ⟨rfl, rfl, rfl, rfl⟩
      refine x_ifneZ C dX3_leaves_99 102 120 rfl (by decide) (fun h99 => ?_) (fun h99 => ?_)
      · rw [eov] at h99
        refine x_iinc C dX3_leaves_120 123 rfl [_, _, _, _, _, _] (nI_inc _) (by decide) rfl rfl rfl ?_
        refine x_goto C dX3_leaves_123 84 (by decide) ?_
        refine x_eqI ?_ (ih (t + 1) (by omega))
        rw [lvS, if_neg (by simp [lvP, h99])]
      · rw [eov] at h99
        refine x_iload C dX3_leaves_102 104 rfl rfl ?_
        refine x_iload_n C dX3_leaves_104 105 rfl rfl ?_
        refine x_iload_n C dX3_leaves_105 106 rfl rfl ?_
        refine x_callS C lk_X3_160 dX3_leaves_106 109 rfl [_, _, _] [] rfl rfl (Nat.le_of_ble_eq_true rfl) (by decide) (Nat.le_refl _) (Nat.le_refl _) kX3_in ?_
        rintro _ _ _ _ ⟨rfl, rfl, rfl, rfl⟩
        refine x_ifneZ C dX3_leaves_109 112 120 rfl (by decide) (fun h109 => ?_) (fun h109 => ?_)
        · refine x_iinc C dX3_leaves_120 123 rfl [_, _, _, _, _, _] (nI_inc _) (by decide) rfl rfl rfl ?_
          refine x_goto C dX3_leaves_123 84 (by decide) ?_
          refine x_eqI ?_ (ih (t + 1) (by omega))
          rw [lvS, if_neg (by simp [lvP, h109])]
        · have hbnd : ¬ lvS I p fr tt t 490 (10 * t + p) = -1 → k + cnt (lvP I p fr tt) t < 500 := by
            intro hne
            rw [el] at hne
            have h1 : lvP I p fr tt t = true := by simp [lvP, h99, h109, hne]
            have h2 := cnt_t h1
            have h3 := cnt_mono (lvP I p fr tt) (show t + 1 ≤ m by omega)
            omega
          refine x_aloadr_n C dX3_leaves_112 113 rfl rfl ?_
          refine x_iload C dX3_leaves_113 115 rfl rfl ?_
          refine x_iload_n C dX3_leaves_115 116 rfl rfl ?_
          refine x_icm C dX3_leaves_116 117 rfl ?_
          refine x_callV C lk_X3_186 dX3_leaves_117 120 rfl [_, _, _] [] rfl rfl hS.1 (Nat.le_of_ble_eq_true rfl) (by decide) (Nat.le_refl _) (Nat.le_refl _) (kX3_notes hS (by omega) hp (lvS_cnt I p fr tt hk t) hbnd) ?_
          rintro _ _ _ _ ⟨rfl, rfl, rfl, rfl⟩
          refine x_iinc C dX3_leaves_120 123 rfl [_, _, _, _, _, _] (nI_inc _) (by decide) rfl rfl rfl ?_
          refine x_goto C dX3_leaves_123 84 (by decide) ?_
          refine x_eqI ?_ (ih (t + 1) (by omega))
          unfold noteT
          rw [el, lvS]
          by_cases hne : I 490 (10 * t + p) = -1
          · rw [if_pos hne, if_neg (by simp [lvP, hne])]
          · rw [if_neg hne, if_pos (by simp [lvP, h99, h109, hne])]
  have hloop : ∀ (j t acc : Nat), t + j = m → acc = cnt (lvP I p fr tt) t → XX w κ (Zr w κ (Qb (sp_leaves I p fr tt m) S J)) 0 0 6 [some (.ref 473), some (.int (nI p)), some (.int fr), some (.int tt), some (.int (nI acc)), some (.int (nI t))] [] S I J := by
    intro j
    induction j with
    | zero =>
      intro t acc ht ha
      have ht : t = m := ht
      subst ht
      subst ha
      have hcl := cnt_le (lvP I p fr tt) t
      refine x_iload C dX3_leaves_6 8 rfl rfl ?_
      refine x_aloadr_n C dX3_leaves_8 9 rfl rfl ?_
      refine x_geti C fl_X3_164 (Or.inl rfl) dX3_leaves_9 12 rfl hS.1 hm ?_
      refine x_icmpgeN C dX3_leaves_12 15 66 rfl (by decide) (by omega) (by omega) (fun _ => ?_) (fun h12 => absurd h12 (by omega))
      refine x_aloadr_n C dX3_leaves_66 67 rfl rfl ?_
      refine x_geti C fl_X3_180 (Or.inl rfl) dX3_leaves_67 70 rfl hS.1 hk ?_
      refine x_iload C dX3_leaves_70 72 rfl rfl ?_
      refine x_iadd C dX3_leaves_72 73 rfl (nI_add _ _) ?_
      refine x_sip (j := 500) C dX3_leaves_73 76 rfl (by decide) ?_
      refine x_icmpleN C dX3_leaves_76 79 81 rfl (by decide) (by omega) (by omega) (fun h76 => ?_) (fun h76 => ?_)
      · refine x_ic (j := 0) C dX3_leaves_81 82 rfl ?_
        refine x_istore C dX3_leaves_82 84 rfl [_, _, _, _, _, _] (by decide) rfl rfl ?_
        exact hloop2 _ (Nat.not_lt.mp h76) t 0 (Nat.zero_add t)
      ·
        refine x_ic (j := 0) C dX3_leaves_79 80 rfl ?_
        exact x_zret C dX3_leaves_80 (Nat.le_refl _) (Nat.le_refl _) (bz_nar false) (Qb_of (b := false) (by unfold sp_leaves; rw [ek, if_neg (by omega)]))
    | succ j ih =>
      intro t acc ht ha
      refine x_iload C dX3_leaves_6 8 rfl rfl ?_
      refine x_aloadr_n C dX3_leaves_8 9 rfl rfl ?_
      refine x_geti C fl_X3_164 (Or.inl rfl) dX3_leaves_9 12 rfl hS.1 hm ?_
      refine x_icmpgeN C dX3_leaves_12 15 66 rfl (by decide) (by omega) (by omega) (fun h12 => absurd h12 (by omega)) (fun _ => ?_)
      refine x_iload C dX3_leaves_15 17 rfl rfl ?_
      refine x_aloadr_n C dX3_leaves_17 18 rfl rfl ?_
      refine x_iload C dX3_leaves_18 20 rfl rfl ?_
      refine x_callV C lk_X3_174 dX3_leaves_20 23 rfl [_] [_] rfl rfl hS.1 (Nat.le_of_ble_eq_true rfl) (by decide) (Nat.le_refl _) (Nat.le_refl _) (kX3_isOver hS (by omega)) ?_
      rintro _ _ _ _ ⟨rfl, rfl, rfl, rfl⟩
      refine x_ifneZ C dX3_leaves_23 26 56 rfl (by decide) (fun h23 => ?_) (fun h23 => ?_)
      · refine x_ic (j := 0) C dX3_leaves_56 57 rfl ?_
        refine x_iadd C dX3_leaves_57 58 rfl (nI_add _ _) ?_
        refine x_istore C dX3_leaves_58 60 rfl [_, _, _, _, _, _] (by decide) rfl rfl ?_
        refine x_iinc C dX3_leaves_60 63 rfl [_, _, _, _, _, _] (nI_inc _) (by decide) rfl rfl rfl ?_
        refine x_goto C dX3_leaves_63 6 (by decide) ?_
        exact ih (t + 1) _ (by omega) (by rw [cnt_f (by simp [lvP, h23]), ha]; rfl)
      · refine x_iload C dX3_leaves_26 28 rfl rfl ?_
        refine x_iload_n C dX3_leaves_28 29 rfl rfl ?_
        refine x_iload_n C dX3_leaves_29 30 rfl rfl ?_
        refine x_callS C lk_X3_160 dX3_leaves_30 33 rfl [_, _, _] [_] rfl rfl (Nat.le_of_ble_eq_true rfl) (by decide) (Nat.le_refl _) (Nat.le_refl _) kX3_in ?_
        rintro _ _ _ _ ⟨rfl, rfl, rfl, rfl⟩
        refine x_ifneZ C dX3_leaves_33 36 56 rfl (by decide) (fun h33 => ?_) (fun h33 => ?_)
        · refine x_ic (j := 0) C dX3_leaves_56 57 rfl ?_
          refine x_iadd C dX3_leaves_57 58 rfl (nI_add _ _) ?_
          refine x_istore C dX3_leaves_58 60 rfl [_, _, _, _, _, _] (by decide) rfl rfl ?_
          refine x_iinc C dX3_leaves_60 63 rfl [_, _, _, _, _, _] (nI_inc _) (by decide) rfl rfl rfl ?_
          refine x_goto C dX3_leaves_63 6 (by decide) ?_
          exact ih (t + 1) _ (by omega) (by rw [cnt_f (by simp [lvP, h33]), ha]; rfl)
        · refine x_aloadr_n C dX3_leaves_36 37 rfl rfl ?_
          refine x_getr C fl_X3_66 (Or.inr ⟨_, rfl⟩) dX3_leaves_37 40 rfl hS.1 (twR_list hS) ?_
          refine x_bip (j := 10) C dX3_leaves_40 42 rfl (by decide) ?_
          refine x_iload C dX3_leaves_42 44 rfl rfl ?_
          refine x_imul C dX3_leaves_44 45 rfl (pk_mul _ _) ?_
          refine x_iload_n C dX3_leaves_45 46 rfl rfl ?_
          refine x_iadd C dX3_leaves_46 47 rfl (nI_add _ _) ?_
          refine x_iald C dX3_leaves_47 48 rfl (twA_list hS) (twN_list hS) rfl (by omega) (by decide) rfl ?_
          refine x_icm C dX3_leaves_48 49 rfl ?_
          refine x_icmpeq C dX3_leaves_49 52 56 rfl (by decide) (fun h49 => ?_) (fun h49 => ?_)
          · refine x_ic (j := 0) C dX3_leaves_56 57 rfl ?_
            refine x_iadd C dX3_leaves_57 58 rfl (nI_add _ _) ?_
            refine x_istore C dX3_leaves_58 60 rfl [_, _, _, _, _, _] (by decide) rfl rfl ?_
            refine x_iinc C dX3_leaves_60 63 rfl [_, _, _, _, _, _] (nI_inc _) (by decide) rfl rfl rfl ?_
            refine x_goto C dX3_leaves_63 6 (by decide) ?_
            exact ih (t + 1) _ (by omega) (by rw [cnt_f (by simp [lvP, h49]), ha]; rfl)
          · refine x_ic (j := 1) C dX3_leaves_52 53 rfl ?_
            refine x_goto C dX3_leaves_53 57 (by decide) ?_
            refine x_iadd C dX3_leaves_57 58 rfl (nI_add _ _) ?_
            refine x_istore C dX3_leaves_58 60 rfl [_, _, _, _, _, _] (by decide) rfl rfl ?_
            refine x_iinc C dX3_leaves_60 63 rfl [_, _, _, _, _, _] (nI_inc _) (by decide) rfl rfl rfl ?_
            refine x_goto C dX3_leaves_63 6 (by decide) ?_
            exact ih (t + 1) _ (by omega) (by rw [cnt_t (by simp [lvP, h23, h33, h49]), ha])
  exact hloop m 0 0 (Nat.zero_add m) rfl
end Tw4

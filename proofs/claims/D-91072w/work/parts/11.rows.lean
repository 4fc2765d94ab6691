/-! rows of the judgement XX: printed by tools/rows.py -/
theorem ofI_n (k : Nat) : Int32.ofInt (Int.ofNat k) = nI k := by
  unfold nI
  apply Int32.toBitVec_inj.mp
  simp [Int32.ofInt, Int32.ofNat]
theorem ofI_m1 : Int32.ofInt (-1) = -1 := by decide +kernel
theorem of8_n (k : Nat) (h : k < 128) : (Int8.ofInt (Int.ofNat k)).toInt32 = nI k := by
  have : ∀ k : Fin 128, (Int8.ofInt (Int.ofNat k.1)).toInt32 = nI k.1 := by decide +kernel
  exact this ⟨k, h⟩
theorem of16_n (k : Nat) (h : k < 32768) : (Int16.ofInt (Int.ofNat k)).toInt32 = nI k := by
  apply Int32.toInt_inj.mp
  rw [Int16.toInt_toInt32, Int16.toInt_ofInt_of_le (by have : (Int.ofNat k : Int) = (k : Int) := rfl; omega) (by have : (Int.ofNat k : Int) = (k : Int) := rfl; omega), nI_toInt (by omega)]
  rfl
def bz (b : Bool) : Int32 := match b with
  | true => 1
  | false => 0
theorem bz_0 (b : Bool) : bz b = 0 ↔ b = false := by cases b <;> decide
theorem bz_nar (b : Bool) : narrow .boolean (.int (bz b)) = .int (bz b) := by cases b <;> rfl
theorem bz_fit (b : Bool) : fits .boolean (.int (bz b)) = true := by cases b <;> rfl
theorem LR.get {w : Wd} {ls : Array Slot} {nL i : Nat} {L : List (Option Value)} {v : Value} (h : LR w ls nL L) (hv : L[i]? = some (some v)) : ls[i]? = some (.val (cv w v)) := h.2.2 i v hv
theorem lrl_at {w : Wd} {L : List (Option Value)} {i : Nat} {v : Value} (h : L[i]? = some (some v)) : ∃ k : Nat, (lrl w L)[k]? = some (i, cv w v) := List.getElem?_of_mem (lrl_mem.mpr ⟨v, h, rfl⟩)
section Rows
variable {w : Wd} {κ : Cx} {Z : State → Prop} {y : MethodName} {cc : ByteArray} {nL d mc ms : Nat} {rt : Option FieldType} {cs sl pc n : Nat} {L L' : List (Option Value)} {sk : List Value} {S : Sh} {I : Mi} {J : Ml}

theorem x_ic (C : Cok w y cc nL rt d mc ms κ) {j : Nat} (hd : decode cc pc = .ok (.iconst (Int.ofNat j), 1)) (n : Nat) (hn : pc + 1 = n)  (k : XX w κ Z cs sl n L (.int (nI j) :: sk) S I J) : XX w κ Z cs sl pc L sk S I J := by
  intro hp locs ls hR hL hl
  subst hn
  exact lv_iconst C.1 C.2.1 hd (ofI_n j) (k hp locs ls hR hL hl)
theorem x_icm (C : Cok w y cc nL rt d mc ms κ) (hd : decode cc pc = .ok (.iconst (-1), 1)) (n : Nat) (hn : pc + 1 = n)  (k : XX w κ Z cs sl n L (.int (-1) :: sk) S I J) : XX w κ Z cs sl pc L sk S I J := by
  intro hp locs ls hR hL hl
  subst hn
  exact lv_iconst C.1 C.2.1 hd ofI_m1 (k hp locs ls hR hL hl)
theorem x_bip (C : Cok w y cc nL rt d mc ms κ) {j : Nat} (hd : decode cc pc = .ok (.bipush (Int.ofNat j), 2)) (n : Nat) (hn : pc + 2 = n) (hj : j < 128) (k : XX w κ Z cs sl n L (.int (nI j) :: sk) S I J) : XX w κ Z cs sl pc L sk S I J := by
  intro hp locs ls hR hL hl
  subst hn
  exact lv_bipush C.1 C.2.1 hd (of8_n j hj) (k hp locs ls hR hL hl)
theorem x_bipz (C : Cok w y cc nL rt d mc ms κ) {z : Int} {v : Int32} (hd : decode cc pc = .ok (.bipush z, 2)) (n : Nat) (hn : pc + 2 = n) (hj : (Int8.ofInt z).toInt32 = v) (k : XX w κ Z cs sl n L (.int v :: sk) S I J) : XX w κ Z cs sl pc L sk S I J := by
  intro hp locs ls hR hL hl
  subst hn
  exact lv_bipush C.1 C.2.1 hd hj (k hp locs ls hR hL hl)
theorem x_sip (C : Cok w y cc nL rt d mc ms κ) {j : Nat} (hd : decode cc pc = .ok (.sipush (Int.ofNat j), 3)) (n : Nat) (hn : pc + 3 = n) (hj : j < 32768) (k : XX w κ Z cs sl n L (.int (nI j) :: sk) S I J) : XX w κ Z cs sl pc L sk S I J := by
  intro hp locs ls hR hL hl
  subst hn
  exact lv_sipush C.1 C.2.1 hd (of16_n j hj) (k hp locs ls hR hL hl)
theorem x_lc (C : Cok w y cc nL rt d mc ms κ) {z : Fin 2} {v : Int64} (hd : decode cc pc = .ok (.lconst z, 1)) (n : Nat) (hn : pc + 1 = n) (hv : Int64.ofNat (z : Nat) = v) (k : XX w κ Z cs sl n L (.long v :: sk) S I J) : XX w κ Z cs sl pc L sk S I J := by
  intro hp locs ls hR hL hl
  subst hn
  exact lv_lconst C.1 C.2.1 hd hv (k hp locs ls hR hL hl)
theorem x_null (C : Cok w y cc nL rt d mc ms κ) (hd : decode cc pc = .ok (.aconst_null, 1)) (n : Nat) (hn : pc + 1 = n)  (k : XX w κ Z cs sl n L (.null :: sk) S I J) : XX w κ Z cs sl pc L sk S I J := by
  intro hp locs ls hR hL hl
  subst hn
  exact lv_null C.1 C.2.1 hd  (k hp locs ls hR hL hl)
theorem x_iadd (C : Cok w y cc nL rt d mc ms κ) {a b v : Int32} (hd : decode cc pc = .ok (.iadd, 1)) (n : Nat) (hn : pc + 1 = n) (hv : a + b = v) (k : XX w κ Z cs sl n L (.int v :: sk) S I J) : XX w κ Z cs sl pc L (.int b :: .int a :: sk) S I J := by
  intro hp locs ls hR hL hl
  subst hn
  subst hv
  exact lv_iadd C.1 C.2.1 hd (k hp locs ls hR hL hl)
theorem x_isub (C : Cok w y cc nL rt d mc ms κ) {a b v : Int32} (hd : decode cc pc = .ok (.isub, 1)) (n : Nat) (hn : pc + 1 = n) (hv : a - b = v) (k : XX w κ Z cs sl n L (.int v :: sk) S I J) : XX w κ Z cs sl pc L (.int b :: .int a :: sk) S I J := by
  intro hp locs ls hR hL hl
  subst hn
  subst hv
  exact lv_isub C.1 C.2.1 hd (k hp locs ls hR hL hl)
theorem x_imul (C : Cok w y cc nL rt d mc ms κ) {a b v : Int32} (hd : decode cc pc = .ok (.imul, 1)) (n : Nat) (hn : pc + 1 = n) (hv : a * b = v) (k : XX w κ Z cs sl n L (.int v :: sk) S I J) : XX w κ Z cs sl pc L (.int b :: .int a :: sk) S I J := by
  intro hp locs ls hR hL hl
  subst hn
  subst hv
  exact lv_imul C.1 C.2.1 hd (k hp locs ls hR hL hl)
theorem x_iand (C : Cok w y cc nL rt d mc ms κ) {a b v : Int32} (hd : decode cc pc = .ok (.iand, 1)) (n : Nat) (hn : pc + 1 = n) (hv : a &&& b = v) (k : XX w κ Z cs sl n L (.int v :: sk) S I J) : XX w κ Z cs sl pc L (.int b :: .int a :: sk) S I J := by
  intro hp locs ls hR hL hl
  subst hn
  subst hv
  exact lv_iand C.1 C.2.1 hd (k hp locs ls hR hL hl)
theorem x_ior (C : Cok w y cc nL rt d mc ms κ) {a b v : Int32} (hd : decode cc pc = .ok (.ior, 1)) (n : Nat) (hn : pc + 1 = n) (hv : a ||| b = v) (k : XX w κ Z cs sl n L (.int v :: sk) S I J) : XX w κ Z cs sl pc L (.int b :: .int a :: sk) S I J := by
  intro hp locs ls hR hL hl
  subst hn
  subst hv
  exact lv_ior C.1 C.2.1 hd (k hp locs ls hR hL hl)
theorem x_ixor (C : Cok w y cc nL rt d mc ms κ) {a b v : Int32} (hd : decode cc pc = .ok (.ixor, 1)) (n : Nat) (hn : pc + 1 = n) (hv : a ^^^ b = v) (k : XX w κ Z cs sl n L (.int v :: sk) S I J) : XX w κ Z cs sl pc L (.int b :: .int a :: sk) S I J := by
  intro hp locs ls hR hL hl
  subst hn
  subst hv
  exact lv_ixor C.1 C.2.1 hd (k hp locs ls hR hL hl)
theorem x_ishl (C : Cok w y cc nL rt d mc ms κ) {a b v : Int32} (hd : decode cc pc = .ok (.ishl, 1)) (n : Nat) (hn : pc + 1 = n) (hv : a <<< (b &&& 31) = v) (k : XX w κ Z cs sl n L (.int v :: sk) S I J) : XX w κ Z cs sl pc L (.int b :: .int a :: sk) S I J := by
  intro hp locs ls hR hL hl
  subst hn
  subst hv
  exact lv_ishl C.1 C.2.1 hd (k hp locs ls hR hL hl)
theorem x_ishr (C : Cok w y cc nL rt d mc ms κ) {a b v : Int32} (hd : decode cc pc = .ok (.ishr, 1)) (n : Nat) (hn : pc + 1 = n) (hv : a >>> (b &&& 31) = v) (k : XX w κ Z cs sl n L (.int v :: sk) S I J) : XX w κ Z cs sl pc L (.int b :: .int a :: sk) S I J := by
  intro hp locs ls hR hL hl
  subst hn
  subst hv
  exact lv_ishr C.1 C.2.1 hd (k hp locs ls hR hL hl)
theorem x_idiv (C : Cok w y cc nL rt d mc ms κ) {a b v : Int32} (hd : decode cc pc = .ok (.idiv, 1)) (n : Nat) (hn : pc + 1 = n) (hb : ¬ b = 0) (hv : a / b = v) (k : XX w κ Z cs sl n L (.int v :: sk) S I J) : XX w κ Z cs sl pc L (.int b :: .int a :: sk) S I J := by
  intro hp locs ls hR hL hl
  subst hn
  subst hv
  exact lv_idiv C.1 C.2.1 hd hb (k hp locs ls hR hL hl)
theorem x_irem (C : Cok w y cc nL rt d mc ms κ) {a b v : Int32} (hd : decode cc pc = .ok (.irem, 1)) (n : Nat) (hn : pc + 1 = n) (hb : ¬ b = 0) (hv : a - a / b * b = v) (k : XX w κ Z cs sl n L (.int v :: sk) S I J) : XX w κ Z cs sl pc L (.int b :: .int a :: sk) S I J := by
  intro hp locs ls hR hL hl
  subst hn
  subst hv
  exact lv_irem C.1 C.2.1 hd hb (k hp locs ls hR hL hl)
theorem x_ineg (C : Cok w y cc nL rt d mc ms κ) {a v : Int32} (hd : decode cc pc = .ok (.ineg, 1)) (n : Nat) (hn : pc + 1 = n) (hv : -a = v) (k : XX w κ Z cs sl n L (.int v :: sk) S I J) : XX w κ Z cs sl pc L (.int a :: sk) S I J := by
  intro hp locs ls hR hL hl
  subst hn
  subst hv
  exact lv_ineg C.1 C.2.1 hd (k hp locs ls hR hL hl)
theorem x_ladd (C : Cok w y cc nL rt d mc ms κ) {a b v : Int64} (hd : decode cc pc = .ok (.ladd, 1)) (n : Nat) (hn : pc + 1 = n) (hv : a + b = v) (k : XX w κ Z cs sl n L (.long v :: sk) S I J) : XX w κ Z cs sl pc L (.long b :: .long a :: sk) S I J := by
  intro hp locs ls hR hL hl
  subst hn
  subst hv
  exact lv_ladd C.1 C.2.1 hd (k hp locs ls hR hL hl)
theorem x_lsub (C : Cok w y cc nL rt d mc ms κ) {a b v : Int64} (hd : decode cc pc = .ok (.lsub, 1)) (n : Nat) (hn : pc + 1 = n) (hv : a - b = v) (k : XX w κ Z cs sl n L (.long v :: sk) S I J) : XX w κ Z cs sl pc L (.long b :: .long a :: sk) S I J := by
  intro hp locs ls hR hL hl
  subst hn
  subst hv
  exact lv_lsub C.1 C.2.1 hd (k hp locs ls hR hL hl)
theorem x_lmul (C : Cok w y cc nL rt d mc ms κ) {a b v : Int64} (hd : decode cc pc = .ok (.lmul, 1)) (n : Nat) (hn : pc + 1 = n) (hv : a * b = v) (k : XX w κ Z cs sl n L (.long v :: sk) S I J) : XX w κ Z cs sl pc L (.long b :: .long a :: sk) S I J := by
  intro hp locs ls hR hL hl
  subst hn
  subst hv
  exact lv_lmul C.1 C.2.1 hd (k hp locs ls hR hL hl)
theorem x_land (C : Cok w y cc nL rt d mc ms κ) {a b v : Int64} (hd : decode cc pc = .ok (.land, 1)) (n : Nat) (hn : pc + 1 = n) (hv : a &&& b = v) (k : XX w κ Z cs sl n L (.long v :: sk) S I J) : XX w κ Z cs sl pc L (.long b :: .long a :: sk) S I J := by
  intro hp locs ls hR hL hl
  subst hn
  subst hv
  exact lv_land C.1 C.2.1 hd (k hp locs ls hR hL hl)
theorem x_lor (C : Cok w y cc nL rt d mc ms κ) {a b v : Int64} (hd : decode cc pc = .ok (.lor, 1)) (n : Nat) (hn : pc + 1 = n) (hv : a ||| b = v) (k : XX w κ Z cs sl n L (.long v :: sk) S I J) : XX w κ Z cs sl pc L (.long b :: .long a :: sk) S I J := by
  intro hp locs ls hR hL hl
  subst hn
  subst hv
  exact lv_lor C.1 C.2.1 hd (k hp locs ls hR hL hl)
theorem x_lshl (C : Cok w y cc nL rt d mc ms κ) {a v : Int64} {b : Int32} (hd : decode cc pc = .ok (.lshl, 1)) (n : Nat) (hn : pc + 1 = n) (hv : a <<< (b.toInt64 &&& 63) = v) (k : XX w κ Z cs sl n L (.long v :: sk) S I J) : XX w κ Z cs sl pc L (.int b :: .long a :: sk) S I J := by
  intro hp locs ls hR hL hl
  subst hn
  exact lv_lshl C.1 C.2.1 hd hv (k hp locs ls hR hL hl)
theorem x_lshr (C : Cok w y cc nL rt d mc ms κ) {a v : Int64} {b : Int32} (hd : decode cc pc = .ok (.lshr, 1)) (n : Nat) (hn : pc + 1 = n) (hv : a >>> (b.toInt64 &&& 63) = v) (k : XX w κ Z cs sl n L (.long v :: sk) S I J) : XX w κ Z cs sl pc L (.int b :: .long a :: sk) S I J := by
  intro hp locs ls hR hL hl
  subst hn
  exact lv_lshr C.1 C.2.1 hd hv (k hp locs ls hR hL hl)
theorem x_lcmp (C : Cok w y cc nL rt d mc ms κ) {a b : Int64} (hd : decode cc pc = .ok (.lcmp, 1)) (n : Nat) (hn : pc + 1 = n)  (k : XX w κ Z cs sl n L (.int (lg_cmp a b) :: sk) S I J) : XX w κ Z cs sl pc L (.long b :: .long a :: sk) S I J := by
  intro hp locs ls hR hL hl
  subst hn
  exact W.lcmp C.1 C.2.1 hd  (k hp locs ls hR hL hl)
theorem x_i2l (C : Cok w y cc nL rt d mc ms κ) {a : Int32} {v : Int64} (hd : decode cc pc = .ok (.i2l, 1)) (n : Nat) (hn : pc + 1 = n) (hv : a.toInt64 = v) (k : XX w κ Z cs sl n L (.long v :: sk) S I J) : XX w κ Z cs sl pc L (.int a :: sk) S I J := by
  intro hp locs ls hR hL hl
  subst hn
  exact lv_i2l C.1 C.2.1 hd hv (k hp locs ls hR hL hl)
theorem x_l2i (C : Cok w y cc nL rt d mc ms κ) {a : Int64} {v : Int32} (hd : decode cc pc = .ok (.l2i, 1)) (n : Nat) (hn : pc + 1 = n) (hv : a.toInt32 = v) (k : XX w κ Z cs sl n L (.int v :: sk) S I J) : XX w κ Z cs sl pc L (.long a :: sk) S I J := by
  intro hp locs ls hR hL hl
  subst hn
  exact lv_l2i C.1 C.2.1 hd hv (k hp locs ls hR hL hl)
theorem x_i2b (C : Cok w y cc nL rt d mc ms κ) {a v : Int32} (hd : decode cc pc = .ok (.i2b, 1)) (n : Nat) (hn : pc + 1 = n) (hv : a.toInt8.toInt32 = v) (k : XX w κ Z cs sl n L (.int v :: sk) S I J) : XX w κ Z cs sl pc L (.int a :: sk) S I J := by
  intro hp locs ls hR hL hl
  subst hn
  exact lv_i2b C.1 C.2.1 hd hv (k hp locs ls hR hL hl)
theorem x_i2c (C : Cok w y cc nL rt d mc ms κ) {a v : Int32} (hd : decode cc pc = .ok (.i2c, 1)) (n : Nat) (hn : pc + 1 = n) (hv : (a.toUInt32 % 65536).toInt32 = v) (k : XX w κ Z cs sl n L (.int v :: sk) S I J) : XX w κ Z cs sl pc L (.int a :: sk) S I J := by
  intro hp locs ls hR hL hl
  subst hn
  exact lv_i2c C.1 C.2.1 hd hv (k hp locs ls hR hL hl)
theorem x_dup (C : Cok w y cc nL rt d mc ms κ) {a : Value} (hd : decode cc pc = .ok (.dup, 1)) (n : Nat) (hn : pc + 1 = n) (hc : a.category = 1) (k : XX w κ Z cs sl n L (a :: a :: sk) S I J) : XX w κ Z cs sl pc L (a :: sk) S I J := by
  intro hp locs ls hR hL hl
  subst hn
  exact lv_dup C.1 C.2.1 hd (by rw [cv_cat]; exact hc) (k hp locs ls hR hL hl)
theorem x_pop (C : Cok w y cc nL rt d mc ms κ) {a : Value} (hd : decode cc pc = .ok (.pop, 1)) (n : Nat) (hn : pc + 1 = n) (hc : a.category = 1) (k : XX w κ Z cs sl n L sk S I J) : XX w κ Z cs sl pc L (a :: sk) S I J := by
  intro hp locs ls hR hL hl
  subst hn
  exact lv_pop C.1 C.2.1 hd (by rw [cv_cat]; exact hc) (k hp locs ls hR hL hl)
theorem x_dup2 (C : Cok w y cc nL rt d mc ms κ) {a b : Value} (hd : decode cc pc = .ok (.dup2, 1)) (n : Nat) (hn : pc + 1 = n) (hc : a.category = 1 ∧ b.category = 1) (k : XX w κ Z cs sl n L (a :: b :: a :: b :: sk) S I J) : XX w κ Z cs sl pc L (a :: b :: sk) S I J := by
  intro hp locs ls hR hL hl
  subst hn
  exact lv_dup2_11 C.1 C.2.1 hd (by rw [cv_cat]; exact hc.1) (by rw [cv_cat]; exact hc.2) (k hp locs ls hR hL hl)
theorem x_dup_x1 (C : Cok w y cc nL rt d mc ms κ) {a b : Value} (hd : decode cc pc = .ok (.dup_x1, 1)) (n : Nat) (hn : pc + 1 = n) (hc : a.category = 1 ∧ b.category = 1) (k : XX w κ Z cs sl n L (a :: b :: a :: sk) S I J) : XX w κ Z cs sl pc L (a :: b :: sk) S I J := by
  intro hp locs ls hR hL hl
  subst hn
  exact lv_dup_x1 C.1 C.2.1 hd (by rw [cv_cat]; exact hc.1) (by rw [cv_cat]; exact hc.2) (k hp locs ls hR hL hl)
theorem x_iload (C : Cok w y cc nL rt d mc ms κ) {i : Nat} {a : Int32} (hd : decode cc pc = .ok (.iload i, 2)) (n : Nat) (hn : pc + 2 = n) (hv : L[i]? = some (some (.int a))) (k : XX w κ Z cs sl n L (.int a :: sk) S I J) : XX w κ Z cs sl pc L sk S I J := by
  intro hp locs ls hR hL hl
  subst hn
  exact lv_iload C.1 C.2.1 hd (hl.get hv) (k hp locs ls hR hL hl)
theorem x_iload_n (C : Cok w y cc nL rt d mc ms κ) {i : Fin 4} {a : Int32} (hd : decode cc pc = .ok (.iload_n i, 1)) (n : Nat) (hn : pc + 1 = n) (hv : L[(i : Nat)]? = some (some (.int a))) (k : XX w κ Z cs sl n L (.int a :: sk) S I J) : XX w κ Z cs sl pc L sk S I J := by
  intro hp locs ls hR hL hl
  subst hn
  exact lv_iload_n C.1 C.2.1 hd rfl (hl.get hv) (k hp locs ls hR hL hl)
theorem x_lload (C : Cok w y cc nL rt d mc ms κ) {i : Nat} {a : Int64} (hd : decode cc pc = .ok (.lload i, 2)) (n : Nat) (hn : pc + 2 = n) (hv : L[i]? = some (some (.long a))) (k : XX w κ Z cs sl n L (.long a :: sk) S I J) : XX w κ Z cs sl pc L sk S I J := by
  intro hp locs ls hR hL hl
  subst hn
  exact lv_lload C.1 C.2.1 hd (hl.get hv) (k hp locs ls hR hL hl)
theorem x_lload_n (C : Cok w y cc nL rt d mc ms κ) {i : Fin 4} {a : Int64} (hd : decode cc pc = .ok (.lload_n i, 1)) (n : Nat) (hn : pc + 1 = n) (hv : L[(i : Nat)]? = some (some (.long a))) (k : XX w κ Z cs sl n L (.long a :: sk) S I J) : XX w κ Z cs sl pc L sk S I J := by
  intro hp locs ls hR hL hl
  subst hn
  exact lv_lload_n C.1 C.2.1 hd rfl (hl.get hv) (k hp locs ls hR hL hl)
theorem x_aload (C : Cok w y cc nL rt d mc ms κ) {i : Nat} {r : Option Nat} (hd : decode cc pc = .ok (.aload i, 2)) (n : Nat) (hn : pc + 2 = n) (hv : L[i]? = some (some (va_rf r))) (k : XX w κ Z cs sl n L (va_rf r :: sk) S I J) : XX w κ Z cs sl pc L sk S I J := by
  intro hp locs ls hR hL hl
  subst hn
  have hg := hl.get hv
  have k := k hp locs ls hR hL hl
  cases r with
  | none => exact lv_aloadN C.1 C.2.1 hd hg k
  | some b => exact lv_aload C.1 C.2.1 hd hg k
theorem x_aloadr (C : Cok w y cc nL rt d mc ms κ) {i : Nat} {b : Nat} (hd : decode cc pc = .ok (.aload i, 2)) (n : Nat) (hn : pc + 2 = n) (hv : L[i]? = some (some (.ref b))) (k : XX w κ Z cs sl n L (.ref b :: sk) S I J) : XX w κ Z cs sl pc L sk S I J := x_aload (r := some b) C hd n hn hv k
theorem x_istore (C : Cok w y cc nL rt d mc ms κ) {i : Nat} {a : Int32} (hd : decode cc pc = .ok (.istore i, 2)) (n : Nat) (hn : pc + 2 = n) (L' : List (Option Value)) (hi : i < nL) (ho : okst L i = true) (hL2 : L.set i (some (.int a)) = L') (k : XX w κ Z cs sl n L' sk S I J) : XX w κ Z cs sl pc L (.int a :: sk) S I J := by
  intro hp locs ls hR hL hl
  subst hn
  exact lv_istore C.1 C.2.1 hd hl.has (by rw [C.2.2.1]; exact hi) rfl (fun ls2 h2 => k hp locs ls2 hR hL (LR.st1 h2 ho hL2))
theorem x_lstore (C : Cok w y cc nL rt d mc ms κ) {i : Nat} {a : Int64} (hd : decode cc pc = .ok (.lstore i, 2)) (n : Nat) (hn : pc + 2 = n) (L' : List (Option Value)) (hi : i + 1 < nL) (ho : okst L i = true) (hL2 : (L.set i (some (.long a))).set (i + 1) none = L') (k : XX w κ Z cs sl n L' sk S I J) : XX w κ Z cs sl pc L (.long a :: sk) S I J := by
  intro hp locs ls hR hL hl
  subst hn
  exact lv_lstore C.1 C.2.1 hd hl.has (by rw [C.2.2.1]; exact hi) rfl (fun ls2 h2 => k hp locs ls2 hR hL (LR.st2 h2 ho hL2))
theorem x_astore (C : Cok w y cc nL rt d mc ms κ) {i : Nat} {r : Option Nat} (hd : decode cc pc = .ok (.astore i, 2)) (n : Nat) (hn : pc + 2 = n) (L' : List (Option Value)) (hi : i < nL) (ho : okst L i = true) (hL2 : L.set i (some (va_rf r)) = L') (k : XX w κ Z cs sl n L' sk S I J) : XX w κ Z cs sl pc L (va_rf r :: sk) S I J := by
  intro hp locs ls hR hL hl
  subst hn
  cases r with
  | none => exact lv_astoreN C.1 C.2.1 hd hl.has (by rw [C.2.2.1]; exact hi) rfl (fun ls2 h2 => k hp locs ls2 hR hL (LR.st1 (v := .null) h2 ho hL2))
  | some b => exact lv_astore C.1 C.2.1 hd hl.has (by rw [C.2.2.1]; exact hi) rfl (fun ls2 h2 => k hp locs ls2 hR hL (LR.st1 (v := .ref b) h2 ho hL2))
theorem x_astorer (C : Cok w y cc nL rt d mc ms κ) {i : Nat} {b : Nat} (hd : decode cc pc = .ok (.astore i, 2)) (n : Nat) (hn : pc + 2 = n) (L' : List (Option Value)) (hi : i < nL) (ho : okst L i = true) (hL2 : L.set i (some (.ref b)) = L') (k : XX w κ Z cs sl n L' sk S I J) : XX w κ Z cs sl pc L (.ref b :: sk) S I J := x_astore (r := some b) C hd n hn L' hi ho hL2 k
theorem x_aload_n (C : Cok w y cc nL rt d mc ms κ) {i : Fin 4} {r : Option Nat} (hd : decode cc pc = .ok (.aload_n i, 1)) (n : Nat) (hn : pc + 1 = n) (hv : L[(i : Nat)]? = some (some (va_rf r))) (k : XX w κ Z cs sl n L (va_rf r :: sk) S I J) : XX w κ Z cs sl pc L sk S I J := by
  intro hp locs ls hR hL hl
  subst hn
  have hg := hl.get hv
  have k := k hp locs ls hR hL hl
  cases r with
  | none => exact lv_aload_nN C.1 C.2.1 hd rfl hg k
  | some b => exact lv_aload_n C.1 C.2.1 hd rfl hg k
theorem x_aloadr_n (C : Cok w y cc nL rt d mc ms κ) {i : Fin 4} {b : Nat} (hd : decode cc pc = .ok (.aload_n i, 1)) (n : Nat) (hn : pc + 1 = n) (hv : L[(i : Nat)]? = some (some (.ref b))) (k : XX w κ Z cs sl n L (.ref b :: sk) S I J) : XX w κ Z cs sl pc L sk S I J := x_aload_n (r := some b) C hd n hn hv k
theorem x_istore_n (C : Cok w y cc nL rt d mc ms κ) {i : Fin 4} {a : Int32} (hd : decode cc pc = .ok (.istore_n i, 1)) (n : Nat) (hn : pc + 1 = n) (L' : List (Option Value)) (hi : (i : Nat) < nL) (ho : okst L (i : Nat) = true) (hL2 : L.set (i : Nat) (some (.int a)) = L') (k : XX w κ Z cs sl n L' sk S I J) : XX w κ Z cs sl pc L (.int a :: sk) S I J := by
  intro hp locs ls hR hL hl
  subst hn
  exact lv_istore_n C.1 C.2.1 hd rfl hl.has (by rw [C.2.2.1]; exact hi) rfl (fun ls2 h2 => k hp locs ls2 hR hL (LR.st1 h2 ho hL2))
theorem x_lstore_n (C : Cok w y cc nL rt d mc ms κ) {i : Fin 4} {a : Int64} (hd : decode cc pc = .ok (.lstore_n i, 1)) (n : Nat) (hn : pc + 1 = n) (L' : List (Option Value)) (hi : (i : Nat) + 1 < nL) (ho : okst L (i : Nat) = true) (hL2 : (L.set (i : Nat) (some (.long a))).set ((i : Nat) + 1) none = L') (k : XX w κ Z cs sl n L' sk S I J) : XX w κ Z cs sl pc L (.long a :: sk) S I J := by
  intro hp locs ls hR hL hl
  subst hn
  exact lv_lstore_n C.1 C.2.1 hd rfl hl.has (by rw [C.2.2.1]; exact hi) rfl (fun ls2 h2 => k hp locs ls2 hR hL (LR.st2 h2 ho hL2))
theorem x_astore_n (C : Cok w y cc nL rt d mc ms κ) {i : Fin 4} {r : Option Nat} (hd : decode cc pc = .ok (.astore_n i, 1)) (n : Nat) (hn : pc + 1 = n) (L' : List (Option Value)) (hi : (i : Nat) < nL) (ho : okst L (i : Nat) = true) (hL2 : L.set (i : Nat) (some (va_rf r)) = L') (k : XX w κ Z cs sl n L' sk S I J) : XX w κ Z cs sl pc L (va_rf r :: sk) S I J := by
  intro hp locs ls hR hL hl
  subst hn
  cases r with
  | none => exact lv_astore_nN C.1 C.2.1 hd rfl hl.has (by rw [C.2.2.1]; exact hi) rfl (fun ls2 h2 => k hp locs ls2 hR hL (LR.st1 (v := .null) h2 ho hL2))
  | some b => exact lv_astore_n C.1 C.2.1 hd rfl hl.has (by rw [C.2.2.1]; exact hi) rfl (fun ls2 h2 => k hp locs ls2 hR hL (LR.st1 (v := .ref b) h2 ho hL2))
theorem x_astorer_n (C : Cok w y cc nL rt d mc ms κ) {i : Fin 4} {b : Nat} (hd : decode cc pc = .ok (.astore_n i, 1)) (n : Nat) (hn : pc + 1 = n) (L' : List (Option Value)) (hi : (i : Nat) < nL) (ho : okst L (i : Nat) = true) (hL2 : L.set (i : Nat) (some (.ref b)) = L') (k : XX w κ Z cs sl n L' sk S I J) : XX w κ Z cs sl pc L (.ref b :: sk) S I J := x_astore_n (r := some b) C hd n hn L' hi ho hL2 k
theorem x_iinc (C : Cok w y cc nL rt d mc ms κ) {i : Nat} {z : Int} {a v : Int32} (hd : decode cc pc = .ok (.iinc i z, 3)) (n : Nat) (hn : pc + 3 = n) (L' : List (Option Value)) (hv : a + Int32.ofInt z = v) (hi : i < nL) (ha : L[i]? = some (some (.int a))) (ho : okst L i = true) (hL2 : L.set i (some (.int v)) = L') (k : XX w κ Z cs sl n L' sk S I J) : XX w κ Z cs sl pc L sk S I J := by
  intro hp locs ls hR hL hl
  subst hn
  obtain ⟨kk, hk⟩ := lrl_at (w := w) ha
  exact lv_iinc C.1 C.2.1 hd hl.has hk hv (by rw [C.2.2.1]; exact hi) rfl (fun ls2 h2 => k hp locs ls2 hR hL (LR.st1 (v := .int v) h2 ho hL2))
theorem x_ifeq (C : Cok w y cc nL rt d mc ms κ) {a : Int32} {z : Int} (hd : decode cc pc = .ok (.ifCond .eq z, 3)) (n tgt : Nat) (hn : pc + 3 = n) (ht : (pc : Int) + z = (tgt : Int)) (kt : a = 0 → XX w κ Z cs sl tgt L sk S I J) (kf : ¬ a = 0 → XX w κ Z cs sl n L sk S I J) : XX w κ Z cs sl pc L (.int a :: sk) S I J := by
  intro hp locs ls hR hL hl
  subst hn
  exact lv_if_eq C.1 C.2.1 hd ht (fun h => kt (by first | exact h | exact Int32.not_lt.mpr h | exact Int32.not_le.mp h | (simpa using h)) hp locs ls hR hL hl) (fun h => kf (by first | exact h | exact Int32.not_lt.mpr h | exact Int32.not_le.mp h | (simpa using h)) hp locs ls hR hL hl)
theorem x_icmpeq (C : Cok w y cc nL rt d mc ms κ) {a b : Int32} {z : Int} (hd : decode cc pc = .ok (.if_icmp .eq z, 3)) (n tgt : Nat) (hn : pc + 3 = n) (ht : (pc : Int) + z = (tgt : Int)) (kt : a = b → XX w κ Z cs sl tgt L sk S I J) (kf : ¬ a = b → XX w κ Z cs sl n L sk S I J) : XX w κ Z cs sl pc L (.int b :: .int a :: sk) S I J := by
  intro hp locs ls hR hL hl
  subst hn
  exact lv_icmp_eq C.1 C.2.1 hd ht (fun h => kt (by first | exact h | exact Int32.not_lt.mpr h | exact Int32.not_le.mp h | (simpa using h)) hp locs ls hR hL hl) (fun h => kf (by first | exact h | exact Int32.not_lt.mpr h | exact Int32.not_le.mp h | (simpa using h)) hp locs ls hR hL hl)
theorem x_ifne (C : Cok w y cc nL rt d mc ms κ) {a : Int32} {z : Int} (hd : decode cc pc = .ok (.ifCond .ne z, 3)) (n tgt : Nat) (hn : pc + 3 = n) (ht : (pc : Int) + z = (tgt : Int)) (kt : ¬ a = 0 → XX w κ Z cs sl tgt L sk S I J) (kf : a = 0 → XX w κ Z cs sl n L sk S I J) : XX w κ Z cs sl pc L (.int a :: sk) S I J := by
  intro hp locs ls hR hL hl
  subst hn
  exact lv_if_ne C.1 C.2.1 hd ht (fun h => kt (by first | exact h | exact Int32.not_lt.mpr h | exact Int32.not_le.mp h | (simpa using h)) hp locs ls hR hL hl) (fun h => kf (by first | exact h | exact Int32.not_lt.mpr h | exact Int32.not_le.mp h | (simpa using h)) hp locs ls hR hL hl)
theorem x_icmpne (C : Cok w y cc nL rt d mc ms κ) {a b : Int32} {z : Int} (hd : decode cc pc = .ok (.if_icmp .ne z, 3)) (n tgt : Nat) (hn : pc + 3 = n) (ht : (pc : Int) + z = (tgt : Int)) (kt : ¬ a = b → XX w κ Z cs sl tgt L sk S I J) (kf : a = b → XX w κ Z cs sl n L sk S I J) : XX w κ Z cs sl pc L (.int b :: .int a :: sk) S I J := by
  intro hp locs ls hR hL hl
  subst hn
  exact lv_icmp_ne C.1 C.2.1 hd ht (fun h => kt (by first | exact h | exact Int32.not_lt.mpr h | exact Int32.not_le.mp h | (simpa using h)) hp locs ls hR hL hl) (fun h => kf (by first | exact h | exact Int32.not_lt.mpr h | exact Int32.not_le.mp h | (simpa using h)) hp locs ls hR hL hl)
theorem x_iflt (C : Cok w y cc nL rt d mc ms κ) {a : Int32} {z : Int} (hd : decode cc pc = .ok (.ifCond .lt z, 3)) (n tgt : Nat) (hn : pc + 3 = n) (ht : (pc : Int) + z = (tgt : Int)) (kt : a < 0 → XX w κ Z cs sl tgt L sk S I J) (kf : ¬ a < 0 → XX w κ Z cs sl n L sk S I J) : XX w κ Z cs sl pc L (.int a :: sk) S I J := by
  intro hp locs ls hR hL hl
  subst hn
  exact lv_if_lt C.1 C.2.1 hd ht (fun h => kt (by first | exact h | exact Int32.not_lt.mpr h | exact Int32.not_le.mp h | (simpa using h)) hp locs ls hR hL hl) (fun h => kf (by first | exact h | exact Int32.not_lt.mpr h | exact Int32.not_le.mp h | (simpa using h)) hp locs ls hR hL hl)
theorem x_icmplt (C : Cok w y cc nL rt d mc ms κ) {a b : Int32} {z : Int} (hd : decode cc pc = .ok (.if_icmp .lt z, 3)) (n tgt : Nat) (hn : pc + 3 = n) (ht : (pc : Int) + z = (tgt : Int)) (kt : a < b → XX w κ Z cs sl tgt L sk S I J) (kf : ¬ a < b → XX w κ Z cs sl n L sk S I J) : XX w κ Z cs sl pc L (.int b :: .int a :: sk) S I J := by
  intro hp locs ls hR hL hl
  subst hn
  exact lv_icmp_lt C.1 C.2.1 hd ht (fun h => kt (by first | exact h | exact Int32.not_lt.mpr h | exact Int32.not_le.mp h | (simpa using h)) hp locs ls hR hL hl) (fun h => kf (by first | exact h | exact Int32.not_lt.mpr h | exact Int32.not_le.mp h | (simpa using h)) hp locs ls hR hL hl)
theorem x_ifge (C : Cok w y cc nL rt d mc ms κ) {a : Int32} {z : Int} (hd : decode cc pc = .ok (.ifCond .ge z, 3)) (n tgt : Nat) (hn : pc + 3 = n) (ht : (pc : Int) + z = (tgt : Int)) (kt : ¬ a < 0 → XX w κ Z cs sl tgt L sk S I J) (kf : a < 0 → XX w κ Z cs sl n L sk S I J) : XX w κ Z cs sl pc L (.int a :: sk) S I J := by
  intro hp locs ls hR hL hl
  subst hn
  exact lv_if_ge C.1 C.2.1 hd ht (fun h => kt (by first | exact h | exact Int32.not_lt.mpr h | exact Int32.not_le.mp h | (simpa using h)) hp locs ls hR hL hl) (fun h => kf (by first | exact h | exact Int32.not_lt.mpr h | exact Int32.not_le.mp h | (simpa using h)) hp locs ls hR hL hl)
theorem x_icmpge (C : Cok w y cc nL rt d mc ms κ) {a b : Int32} {z : Int} (hd : decode cc pc = .ok (.if_icmp .ge z, 3)) (n tgt : Nat) (hn : pc + 3 = n) (ht : (pc : Int) + z = (tgt : Int)) (kt : ¬ a < b → XX w κ Z cs sl tgt L sk S I J) (kf : a < b → XX w κ Z cs sl n L sk S I J) : XX w κ Z cs sl pc L (.int b :: .int a :: sk) S I J := by
  intro hp locs ls hR hL hl
  subst hn
  exact lv_icmp_ge C.1 C.2.1 hd ht (fun h => kt (by first | exact h | exact Int32.not_lt.mpr h | exact Int32.not_le.mp h | (simpa using h)) hp locs ls hR hL hl) (fun h => kf (by first | exact h | exact Int32.not_lt.mpr h | exact Int32.not_le.mp h | (simpa using h)) hp locs ls hR hL hl)
theorem x_ifgt (C : Cok w y cc nL rt d mc ms κ) {a : Int32} {z : Int} (hd : decode cc pc = .ok (.ifCond .gt z, 3)) (n tgt : Nat) (hn : pc + 3 = n) (ht : (pc : Int) + z = (tgt : Int)) (kt : 0 < a → XX w κ Z cs sl tgt L sk S I J) (kf : ¬ 0 < a → XX w κ Z cs sl n L sk S I J) : XX w κ Z cs sl pc L (.int a :: sk) S I J := by
  intro hp locs ls hR hL hl
  subst hn
  exact lv_if_gt C.1 C.2.1 hd ht (fun h => kt (by first | exact h | exact Int32.not_lt.mpr h | exact Int32.not_le.mp h | (simpa using h)) hp locs ls hR hL hl) (fun h => kf (by first | exact h | exact Int32.not_lt.mpr h | exact Int32.not_le.mp h | (simpa using h)) hp locs ls hR hL hl)
theorem x_icmpgt (C : Cok w y cc nL rt d mc ms κ) {a b : Int32} {z : Int} (hd : decode cc pc = .ok (.if_icmp .gt z, 3)) (n tgt : Nat) (hn : pc + 3 = n) (ht : (pc : Int) + z = (tgt : Int)) (kt : b < a → XX w κ Z cs sl tgt L sk S I J) (kf : ¬ b < a → XX w κ Z cs sl n L sk S I J) : XX w κ Z cs sl pc L (.int b :: .int a :: sk) S I J := by
  intro hp locs ls hR hL hl
  subst hn
  exact lv_icmp_gt C.1 C.2.1 hd ht (fun h => kt (by first | exact h | exact Int32.not_lt.mpr h | exact Int32.not_le.mp h | (simpa using h)) hp locs ls hR hL hl) (fun h => kf (by first | exact h | exact Int32.not_lt.mpr h | exact Int32.not_le.mp h | (simpa using h)) hp locs ls hR hL hl)
theorem x_ifle (C : Cok w y cc nL rt d mc ms κ) {a : Int32} {z : Int} (hd : decode cc pc = .ok (.ifCond .le z, 3)) (n tgt : Nat) (hn : pc + 3 = n) (ht : (pc : Int) + z = (tgt : Int)) (kt : ¬ 0 < a → XX w κ Z cs sl tgt L sk S I J) (kf : 0 < a → XX w κ Z cs sl n L sk S I J) : XX w κ Z cs sl pc L (.int a :: sk) S I J := by
  intro hp locs ls hR hL hl
  subst hn
  exact lv_if_le C.1 C.2.1 hd ht (fun h => kt (by first | exact h | exact Int32.not_lt.mpr h | exact Int32.not_le.mp h | (simpa using h)) hp locs ls hR hL hl) (fun h => kf (by first | exact h | exact Int32.not_lt.mpr h | exact Int32.not_le.mp h | (simpa using h)) hp locs ls hR hL hl)
theorem x_icmple (C : Cok w y cc nL rt d mc ms κ) {a b : Int32} {z : Int} (hd : decode cc pc = .ok (.if_icmp .le z, 3)) (n tgt : Nat) (hn : pc + 3 = n) (ht : (pc : Int) + z = (tgt : Int)) (kt : ¬ b < a → XX w κ Z cs sl tgt L sk S I J) (kf : b < a → XX w κ Z cs sl n L sk S I J) : XX w κ Z cs sl pc L (.int b :: .int a :: sk) S I J := by
  intro hp locs ls hR hL hl
  subst hn
  exact lv_icmp_le C.1 C.2.1 hd ht (fun h => kt (by first | exact h | exact Int32.not_lt.mpr h | exact Int32.not_le.mp h | (simpa using h)) hp locs ls hR hL hl) (fun h => kf (by first | exact h | exact Int32.not_lt.mpr h | exact Int32.not_le.mp h | (simpa using h)) hp locs ls hR hL hl)
theorem x_ifeqZ (C : Cok w y cc nL rt d mc ms κ) {b : Bool} {z : Int} (hd : decode cc pc = .ok (.ifCond .eq z, 3)) (n tgt : Nat) (hn : pc + 3 = n) (ht : (pc : Int) + z = (tgt : Int)) (kt : b = false → XX w κ Z cs sl tgt L sk S I J) (kf : b = true → XX w κ Z cs sl n L sk S I J) : XX w κ Z cs sl pc L (.int (bz b) :: sk) S I J := by
  exact x_ifeq C hd n tgt hn ht (fun h => kt ((bz_0 b).mp h)) (fun h => kf (by cases b with | true => rfl | false => exact absurd rfl h))
theorem x_ifneZ (C : Cok w y cc nL rt d mc ms κ) {b : Bool} {z : Int} (hd : decode cc pc = .ok (.ifCond .ne z, 3)) (n tgt : Nat) (hn : pc + 3 = n) (ht : (pc : Int) + z = (tgt : Int)) (kt : b = true → XX w κ Z cs sl tgt L sk S I J) (kf : b = false → XX w κ Z cs sl n L sk S I J) : XX w κ Z cs sl pc L (.int (bz b) :: sk) S I J := by
  exact x_ifne C hd n tgt hn ht (fun h => kt (by cases b with | true => rfl | false => exact absurd rfl h)) (fun h => kf ((bz_0 b).mp h))
theorem x_icmpeqN (C : Cok w y cc nL rt d mc ms κ) {a b : Nat} {z : Int} (hd : decode cc pc = .ok (.if_icmp .eq z, 3)) (n tgt : Nat) (hn : pc + 3 = n) (ht : (pc : Int) + z = (tgt : Int)) (ha : a < 2 ^ 31) (hb : b < 2 ^ 31) (kt : a = b → XX w κ Z cs sl tgt L sk S I J) (kf : ¬ a = b → XX w κ Z cs sl n L sk S I J) : XX w κ Z cs sl pc L (.int (nI b) :: .int (nI a) :: sk) S I J := by
  exact x_icmpeq C hd n tgt hn ht (fun h => kt ((nI_eq ha hb).mp h)) (fun h => kf (fun q => h ((nI_eq ha hb).mpr q)))
theorem x_icmpneN (C : Cok w y cc nL rt d mc ms κ) {a b : Nat} {z : Int} (hd : decode cc pc = .ok (.if_icmp .ne z, 3)) (n tgt : Nat) (hn : pc + 3 = n) (ht : (pc : Int) + z = (tgt : Int)) (ha : a < 2 ^ 31) (hb : b < 2 ^ 31) (kt : ¬ a = b → XX w κ Z cs sl tgt L sk S I J) (kf : a = b → XX w κ Z cs sl n L sk S I J) : XX w κ Z cs sl pc L (.int (nI b) :: .int (nI a) :: sk) S I J := by
  exact x_icmpne C hd n tgt hn ht (fun h => kt (fun q => h ((nI_eq ha hb).mpr q))) (fun h => kf ((nI_eq ha hb).mp h))
theorem x_icmpltN (C : Cok w y cc nL rt d mc ms κ) {a b : Nat} {z : Int} (hd : decode cc pc = .ok (.if_icmp .lt z, 3)) (n tgt : Nat) (hn : pc + 3 = n) (ht : (pc : Int) + z = (tgt : Int)) (ha : a < 2 ^ 31) (hb : b < 2 ^ 31) (kt : a < b → XX w κ Z cs sl tgt L sk S I J) (kf : ¬ a < b → XX w κ Z cs sl n L sk S I J) : XX w κ Z cs sl pc L (.int (nI b) :: .int (nI a) :: sk) S I J := by
  exact x_icmplt C hd n tgt hn ht (fun h => kt ((nI_ltI ha hb).mp h)) (fun h => kf (fun q => h ((nI_ltI ha hb).mpr q)))
theorem x_icmpgeN (C : Cok w y cc nL rt d mc ms κ) {a b : Nat} {z : Int} (hd : decode cc pc = .ok (.if_icmp .ge z, 3)) (n tgt : Nat) (hn : pc + 3 = n) (ht : (pc : Int) + z = (tgt : Int)) (ha : a < 2 ^ 31) (hb : b < 2 ^ 31) (kt : ¬ a < b → XX w κ Z cs sl tgt L sk S I J) (kf : a < b → XX w κ Z cs sl n L sk S I J) : XX w κ Z cs sl pc L (.int (nI b) :: .int (nI a) :: sk) S I J := by
  exact x_icmpge C hd n tgt hn ht (fun h => kt (fun q => h ((nI_ltI ha hb).mpr q))) (fun h => kf ((nI_ltI ha hb).mp h))
theorem x_icmpgtN (C : Cok w y cc nL rt d mc ms κ) {a b : Nat} {z : Int} (hd : decode cc pc = .ok (.if_icmp .gt z, 3)) (n tgt : Nat) (hn : pc + 3 = n) (ht : (pc : Int) + z = (tgt : Int)) (ha : a < 2 ^ 31) (hb : b < 2 ^ 31) (kt : b < a → XX w κ Z cs sl tgt L sk S I J) (kf : ¬ b < a → XX w κ Z cs sl n L sk S I J) : XX w κ Z cs sl pc L (.int (nI b) :: .int (nI a) :: sk) S I J := by
  exact x_icmpgt C hd n tgt hn ht (fun h => kt ((nI_ltI hb ha).mp h)) (fun h => kf (fun q => h ((nI_ltI hb ha).mpr q)))
theorem x_icmpleN (C : Cok w y cc nL rt d mc ms κ) {a b : Nat} {z : Int} (hd : decode cc pc = .ok (.if_icmp .le z, 3)) (n tgt : Nat) (hn : pc + 3 = n) (ht : (pc : Int) + z = (tgt : Int)) (ha : a < 2 ^ 31) (hb : b < 2 ^ 31) (kt : ¬ b < a → XX w κ Z cs sl tgt L sk S I J) (kf : b < a → XX w κ Z cs sl n L sk S I J) : XX w κ Z cs sl pc L (.int (nI b) :: .int (nI a) :: sk) S I J := by
  exact x_icmple C hd n tgt hn ht (fun h => kt (fun q => h ((nI_ltI hb ha).mpr q))) (fun h => kf ((nI_ltI hb ha).mp h))
theorem lgc_lt (a b : Int64) : lg_cmp a b < 0 ↔ a < b := by
  unfold lg_cmp
  simp only [gt_iff_lt, Int64.lt_iff_toInt_lt, ← Int64.toInt_inj]
  repeat' split
  all_goals (constructor <;> intro hh <;> first | omega | decide | exact absurd hh (by decide))
theorem lgc_gt (a b : Int64) : 0 < lg_cmp a b ↔ b < a := by
  unfold lg_cmp
  simp only [gt_iff_lt, Int64.lt_iff_toInt_lt, ← Int64.toInt_inj]
  repeat' split
  all_goals (constructor <;> intro hh <;> first | omega | decide | exact absurd hh (by decide))
theorem lgc_eq (a b : Int64) : lg_cmp a b = 0 ↔ a = b := by
  unfold lg_cmp
  simp only [gt_iff_lt, Int64.lt_iff_toInt_lt, ← Int64.toInt_inj]
  repeat' split
  all_goals (constructor <;> intro hh <;> first | omega | decide | exact absurd hh (by decide))
theorem x_ifeqC (C : Cok w y cc nL rt d mc ms κ) {a b : Int64} {z : Int} (hd : decode cc pc = .ok (.ifCond .eq z, 3)) (n tgt : Nat) (hn : pc + 3 = n) (ht : (pc : Int) + z = (tgt : Int)) (kt : a = b → XX w κ Z cs sl tgt L sk S I J) (kf : ¬ a = b → XX w κ Z cs sl n L sk S I J) : XX w κ Z cs sl pc L (.int (lg_cmp a b) :: sk) S I J := by
  exact x_ifeq C hd n tgt hn ht (fun h => kt ((lgc_eq a b).mp h)) (fun h => kf (fun q => h ((lgc_eq a b).mpr q)))
theorem x_ifneC (C : Cok w y cc nL rt d mc ms κ) {a b : Int64} {z : Int} (hd : decode cc pc = .ok (.ifCond .ne z, 3)) (n tgt : Nat) (hn : pc + 3 = n) (ht : (pc : Int) + z = (tgt : Int)) (kt : ¬ a = b → XX w κ Z cs sl tgt L sk S I J) (kf : a = b → XX w κ Z cs sl n L sk S I J) : XX w κ Z cs sl pc L (.int (lg_cmp a b) :: sk) S I J := by
  exact x_ifne C hd n tgt hn ht (fun h => kt (fun q => h ((lgc_eq a b).mpr q))) (fun h => kf ((lgc_eq a b).mp h))
theorem x_ifltC (C : Cok w y cc nL rt d mc ms κ) {a b : Int64} {z : Int} (hd : decode cc pc = .ok (.ifCond .lt z, 3)) (n tgt : Nat) (hn : pc + 3 = n) (ht : (pc : Int) + z = (tgt : Int)) (kt : a < b → XX w κ Z cs sl tgt L sk S I J) (kf : ¬ a < b → XX w κ Z cs sl n L sk S I J) : XX w κ Z cs sl pc L (.int (lg_cmp a b) :: sk) S I J := by
  exact x_iflt C hd n tgt hn ht (fun h => kt ((lgc_lt a b).mp h)) (fun h => kf (fun q => h ((lgc_lt a b).mpr q)))
theorem x_ifgeC (C : Cok w y cc nL rt d mc ms κ) {a b : Int64} {z : Int} (hd : decode cc pc = .ok (.ifCond .ge z, 3)) (n tgt : Nat) (hn : pc + 3 = n) (ht : (pc : Int) + z = (tgt : Int)) (kt : ¬ a < b → XX w κ Z cs sl tgt L sk S I J) (kf : a < b → XX w κ Z cs sl n L sk S I J) : XX w κ Z cs sl pc L (.int (lg_cmp a b) :: sk) S I J := by
  exact x_ifge C hd n tgt hn ht (fun h => kt (fun q => h ((lgc_lt a b).mpr q))) (fun h => kf ((lgc_lt a b).mp h))
theorem x_ifgtC (C : Cok w y cc nL rt d mc ms κ) {a b : Int64} {z : Int} (hd : decode cc pc = .ok (.ifCond .gt z, 3)) (n tgt : Nat) (hn : pc + 3 = n) (ht : (pc : Int) + z = (tgt : Int)) (kt : b < a → XX w κ Z cs sl tgt L sk S I J) (kf : ¬ b < a → XX w κ Z cs sl n L sk S I J) : XX w κ Z cs sl pc L (.int (lg_cmp a b) :: sk) S I J := by
  exact x_ifgt C hd n tgt hn ht (fun h => kt ((lgc_gt a b).mp h)) (fun h => kf (fun q => h ((lgc_gt a b).mpr q)))
theorem x_ifleC (C : Cok w y cc nL rt d mc ms κ) {a b : Int64} {z : Int} (hd : decode cc pc = .ok (.ifCond .le z, 3)) (n tgt : Nat) (hn : pc + 3 = n) (ht : (pc : Int) + z = (tgt : Int)) (kt : ¬ b < a → XX w κ Z cs sl tgt L sk S I J) (kf : b < a → XX w κ Z cs sl n L sk S I J) : XX w κ Z cs sl pc L (.int (lg_cmp a b) :: sk) S I J := by
  exact x_ifle C hd n tgt hn ht (fun h => kt (fun q => h ((lgc_gt a b).mpr q))) (fun h => kf ((lgc_gt a b).mp h))
theorem x_acmpeq (C : Cok w y cc nL rt d mc ms κ) {a b : Option Nat} {z : Int} (hd : decode cc pc = .ok (.if_acmp .eq z, 3)) (n tgt : Nat) (hn : pc + 3 = n) (ht : (pc : Int) + z = (tgt : Int)) (hw : ∀ hp, Rep w hp S I J → (a.map (rho w) = b.map (rho w) → a = b)) (kt : a = b → XX w κ Z cs sl tgt L sk S I J) (kf : ¬ a = b → XX w κ Z cs sl n L sk S I J) : XX w κ Z cs sl pc L (va_rf b :: va_rf a :: sk) S I J := by
  intro hp locs ls hR hL hl
  subst hn
  have kt := fun h => kt h hp locs ls hR hL hl
  have kf := fun h => kf h hp locs ls hR hL hl
  show W _ _ _ _ _ _ _ _ _ _ hp locs cs sl Z (F0 _ pc ls (cv w (va_rf b) :: cv w (va_rf a) :: sk.map (cv w)))
  rw [cv_rf, cv_rf]
  exact lv_acmp_eq C.1 C.2.1 hd ht (fun h => kt (hw hp hR h)) (fun h => kf (fun q => h (congrArg (Option.map (rho w)) q)))
theorem x_acmpne (C : Cok w y cc nL rt d mc ms κ) {a b : Option Nat} {z : Int} (hd : decode cc pc = .ok (.if_acmp .ne z, 3)) (n tgt : Nat) (hn : pc + 3 = n) (ht : (pc : Int) + z = (tgt : Int)) (hw : ∀ hp, Rep w hp S I J → (a.map (rho w) = b.map (rho w) → a = b)) (kt : ¬ a = b → XX w κ Z cs sl tgt L sk S I J) (kf : a = b → XX w κ Z cs sl n L sk S I J) : XX w κ Z cs sl pc L (va_rf b :: va_rf a :: sk) S I J := by
  intro hp locs ls hR hL hl
  subst hn
  have kt := fun h => kt h hp locs ls hR hL hl
  have kf := fun h => kf h hp locs ls hR hL hl
  show W _ _ _ _ _ _ _ _ _ _ hp locs cs sl Z (F0 _ pc ls (cv w (va_rf b) :: cv w (va_rf a) :: sk.map (cv w)))
  rw [cv_rf, cv_rf]
  exact lv_acmp_ne C.1 C.2.1 hd ht (fun h => kt (fun q => h (congrArg (Option.map (rho w)) q))) (fun h => kf (hw hp hR h))
theorem x_goto (C : Cok w y cc nL rt d mc ms κ) {z : Int} (hd : decode cc pc = .ok (.goto z, 3)) (tgt : Nat) (ht : (pc : Int) + z = (tgt : Int)) (k : XX w κ Z cs sl tgt L sk S I J) : XX w κ Z cs sl pc L sk S I J := by
  intro hp locs ls hR hL hl
  exact lv_goto C.1 C.2.1 hd ht (k hp locs ls hR hL hl)
theorem x_tin (C : Cok w y cc nL rt d mc ms κ) {dflt lo hi off : Int} {offs : Array Int} {len : Nat} {x : Int32} (hd : decode cc pc = .ok (.tableswitch dflt lo hi offs, len)) (tgt : Nat) (h1 : ¬ x.toInt < lo) (h2 : ¬ hi < x.toInt) (ho : offs[(x.toInt - lo).toNat]? = some off) (ht : (pc : Int) + off = (tgt : Int)) (k : XX w κ Z cs sl tgt L sk S I J) : XX w κ Z cs sl pc L (.int x :: sk) S I J := by
  intro hp locs ls hR hL hl
  exact lv_tableIn C.1 C.2.1 hd h1 h2 ho ht (k hp locs ls hR hL hl)
theorem x_tout (C : Cok w y cc nL rt d mc ms κ) {dflt lo hi : Int} {offs : Array Int} {len : Nat} {x : Int32} (hd : decode cc pc = .ok (.tableswitch dflt lo hi offs, len)) (tgt : Nat) (h : x.toInt < lo ∨ hi < x.toInt) (ht : (pc : Int) + dflt = (tgt : Int)) (k : XX w κ Z cs sl tgt L sk S I J) : XX w κ Z cs sl pc L (.int x :: sk) S I J := by
  intro hp locs ls hR hL hl
  exact lv_tableOut C.1 C.2.1 hd h ht (k hp locs ls hR hL hl)
theorem x_ifnull (C : Cok w y cc nL rt d mc ms κ) {r : Option Nat} {z : Int} (hd : decode cc pc = .ok (.ifnull z, 3)) (n tgt : Nat) (hn : pc + 3 = n) (ht : (pc : Int) + z = (tgt : Int)) (kt : r = none → XX w κ Z cs sl tgt L sk S I J) (kf : ∀ b, r = some b → XX w κ Z cs sl n L sk S I J) : XX w κ Z cs sl pc L (va_rf r :: sk) S I J := by
  intro hp locs ls hR hL hl
  subst hn
  cases r with
  | none => exact lv_ifnullN C.1 C.2.1 hd ht (kt rfl hp locs ls hR hL hl)
  | some b => exact lv_ifnull C.1 C.2.1 hd (kf b rfl hp locs ls hR hL hl)
theorem x_ifnonnull (C : Cok w y cc nL rt d mc ms κ) {r : Option Nat} {z : Int} (hd : decode cc pc = .ok (.ifnonnull z, 3)) (n tgt : Nat) (hn : pc + 3 = n) (ht : (pc : Int) + z = (tgt : Int)) (kt : ∀ b, r = some b → XX w κ Z cs sl tgt L sk S I J) (kf : r = none → XX w κ Z cs sl n L sk S I J) : XX w κ Z cs sl pc L (va_rf r :: sk) S I J := by
  intro hp locs ls hR hL hl
  subst hn
  cases r with
  | none => exact lv_ifnonnullN C.1 C.2.1 hd (kf rfl hp locs ls hR hL hl)
  | some b => exact lv_ifnonnull C.1 C.2.1 hd ht (kt b rfl hp locs ls hR hL hl)
theorem x_ldc (C : Cok w y cc nL rt d mc ms κ) {idx : Nat} {v : Int32} (hd : decode cc pc = .ok (.ldc idx, 2)) (n : Nat) (hn : pc + 2 = n) (hq : Cond.constant y.cls idx v ∈ lw_all) (k : XX w κ Z cs sl n L (.int v :: sk) S I J) : XX w κ Z cs sl pc L sk S I J := by
  intro hp locs ls hR hL hl
  subst hn
  exact lv_ldc C.1 C.2.1 C.2.2.2.1 (C.2.2.2.2.1 _ hq) hd (k hp locs ls hR hL hl)
theorem x_ldc2 (C : Cok w y cc nL rt d mc ms κ) {idx : Nat} {v : Int64} (hd : decode cc pc = .ok (.ldc2_w idx, 3)) (n : Nat) (hn : pc + 3 = n) (hq : Cond.constantLong y.cls idx v ∈ lw_all) (k : XX w κ Z cs sl n L (.long v :: sk) S I J) : XX w κ Z cs sl pc L sk S I J := by
  intro hp locs ls hR hL hl
  subst hn
  exact lv_ldc2 C.1 C.2.1 C.2.2.2.1 (C.2.2.2.2.1 _ hq) hd (k hp locs ls hR hL hl)
theorem x_less (L' : List (Option Value)) (hs : ∀ (i : Nat) (v : Value), L'[i]? = some (some v) → L[i]? = some (some v)) (k : XX w κ Z cs sl pc L' sk S I J) : XX w κ Z cs sl pc L sk S I J := fun hp locs ls hR hL hl => k hp locs ls hR hL (hl.sub hs)
theorem x_wide {cs2 sl2 : Nat} (h1 : cs ≤ cs2) (h2 : sl ≤ sl2) (k : XX w κ Z cs2 sl2 pc L sk S I J) : XX w κ Z cs sl pc L sk S I J := fun hp locs ls hR hL hl => W.widen h1 h2 (k hp locs ls hR hL hl)
/-- names for what is in the state -/
theorem x_eqI {I' : Mi} (h : I = I') (k : XX w κ Z cs sl pc L sk S I' J) : XX w κ Z cs sl pc L sk S I J := h ▸ k
/-- fewer locals, place by place -/
def Lss : List (Option Value) → List (Option Value) → Prop
  | [], [] => True
  | none :: xs, _ :: ys => Lss xs ys
  | some v :: xs, o :: ys => o = some v ∧ Lss xs ys
  | _, _ => False
theorem Lss.at : ∀ {L' L : List (Option Value)}, Lss L' L → ∀ (i : Nat) (v : Value), L'[i]? = some (some v) → L[i]? = some (some v)
  | [], [], _, i, v, h => by simp at h
  | none :: xs, y :: ys, hs, 0, v, h => by simp at h
  | none :: xs, y :: ys, hs, i + 1, v, h => by
    have := Lss.at (L' := xs) (L := ys) hs i v (by simpa using h)
    simpa using this
  | some u :: xs, y :: ys, hs, 0, v, h => by
    have h1 : y = some u := hs.1
    subst h1
    simpa using h
  | some u :: xs, y :: ys, hs, i + 1, v, h => by
    have := Lss.at (L' := xs) (L := ys) hs.2 i v (by simpa using h)
    simpa using this
theorem x_ls (L' : List (Option Value)) (hs : Lss L' L) (k : XX w κ Z cs sl pc L' sk S I J) : XX w κ Z cs sl pc L sk S I J := x_less L' hs.at k
theorem x_eqJ {J' : Ml} (h : J = J') (k : XX w κ Z cs sl pc L sk S I J') : XX w κ Z cs sl pc L sk S I J := h ▸ k
theorem x_eqS {S' : Sh} (h : S = S') (k : XX w κ Z cs sl pc L sk S' I J) : XX w κ Z cs sl pc L sk S I J := h ▸ k
theorem x_eqk {sk' : List Value} (h : sk = sk') (k : XX w κ Z cs sl pc L sk' S I J) : XX w κ Z cs sl pc L sk S I J := h ▸ k
end Rows

/-! calls that the receiver's class selects -/
theorem lw_U {own : String} {idx : Nat} {C : String} {x y : MethodName} {b : ByteArray} {L : Nat} {r : Option FieldType} (h1 : Cond.methodLink own idx x ∈ lw_all) (h2 : Cond.sameMethod x.cls x.cls x.name x.desc ∈ lw_all) (h3 : Cond.selects C x y ∈ lw_all) (h4 : Cond.instanceMethod y ∈ lw_all) (h5 : Cond.initialized y.cls ∈ lw_all) (h6 : Cond.code y b L r ∈ lw_all) : GoodIn lw_all (va_wsU own idx C x.cls x y (ws_ y b L r)) := by
  refine lw_app ?_ (lw_meth h6)
  intro w hw
  simp only [List.mem_cons, List.not_mem_nil, or_false] at hw
  rcases hw with e | e | e | e | e
  · rw [e]; exact h1
  · rw [e]; exact h2
  · rw [e]; exact h3
  · rw [e]; exact h4
  · rw [e]; exact h5
/-- entry idx of own names x; an object of the class numbered ci selects y -/
def MU (own : String) (idx ci : Nat) (x y : MethodName) (cc : ByteArray) (nL : Nat) (rt : Option FieldType) (n : Nat) : Prop :=
  ∃ C : String, GoodIn lw_all (va_wsU own idx C x.cls x y (ws_ y cc nL rt)) ∧ (⟨x.cls, x.name, x.desc⟩ : MethodName) ∈ xND ∧ (x.cls ≠ "java/lang/invoke/MethodHandle" ∧ x.cls ≠ "java/lang/invoke/VarHandle" ∧ (parseMethodDescriptor x.desc).map (fun d => d.parameters.length) = some n) ∧ ci < 100 ∧ (∃ q, xCl[ci]? = some q ∧ q.1 = C) ∧ nL ≤ 22
section Calls3
variable {w : Wd} {κ : Cx} {Z : State → Prop} {y : MethodName} {cc : ByteArray} {nL d mc ms : Nat} {rt : Option FieldType} {cs sl pc n : Nat} {L L' : List (Option Value)} {sk : List Value} {S : Sh} {I : Mi} {J : Ml}
theorem x_callU (C : Cok w y cc nL rt d mc ms κ) {x' y' : MethodName} {cc' : ByteArray} {nL' d' mc' ms' idx ci k b : Nat} {rt' : Option FieldType} {Q : Option Value → Sh → Mi → Ml → Prop} (hM : MU y.cls idx ci x' y' cc' nL' rt' k) (hd : decode cc pc = .ok (.invokevirtual idx, 3)) (n : Nat) (hn : pc + 3 = n) (As rest : List Value) (hsk : sk = As.reverse ++ .ref b :: rest) (hAn : As.length = k) (hT : S.1 b = ci)
    (hroom : (rest.map fun v => v.category).sum ≤ 8) (hdd : d' + 1 ≤ d) (hc : cs + mc' ≤ mc) (hs : sl + ms' ≤ ms) (hct : Ct w κ.2.1 y' cc' nL' rt' d' mc' ms' (.ref b :: As) S I J Q)
    (kk : ∀ (r : Option Value) (S' : Sh) (I' : Mi) (J' : Ml), Q r S' I' J' → XX w κ Z (cs + mc') (sl + ms') n L (r.toList ++ rest) S' I' J') : XX w κ Z cs sl pc L sk S I J := by
  intro hp locs ls hR hL hl
  subst hn
  subst hsk
  obtain ⟨Cn, hG, hnd, hds, hci, ⟨q, hq1, hq2⟩, hnl⟩ := hM
  have hlt : b < S.2.2.2 := hR.lt hT (by omega)
  obtain ⟨r, hr, hOB⟩ := (hR.2.2.1 b hlt).1 (by omega)
  rw [hT] at hr hOB
  cases hq1.symm.trans hr
  have hrho : rho w b = wz w + b := rho_of hR hT (by omega)
  have kk := fun r S' I' J' h0 hp' locs' h1 h2 => kk r S' I' J' h0 hp' locs' ls h1 h2 hl
  obtain ⟨p, l, e, R, s, m, args, below, meth, c⟩ := κ
  obtain ⟨hx, hb, hml, hown, hts, hK, -, -, hRm, -⟩ := C
  have hx : p.tables.exec = Jvm.exec := hx
  have hb : c.code = cc := hb
  have hml : c.maxLocals = nL := hml
  have hown : s.vm.findClass y.cls = some m.cls := hown
  have hts : ∀ x ∈ lw_all, x.before args s = true := hts
  have hK : Kn w s := hK
  have hRm : R = rmx d mc ms := hRm
  have hl : LR w ls c.maxLocals L := hl
  have hct : Met l y' (ws_ y' cc' nL' rt') (rmx d' mc' ms') (fun v U => v = (((.ref b :: As : List Value)).map (cv w)).toArray ∧ Rep w U.heap S I J ∧ Kn w U) (qc w Q) mc' ms' (fun q => wz w ≤ q) := hct
  obtain ⟨hS, hfc, -⟩ := hK.1.1 ci _ hq1
  obtain ⟨cell, g1, g2, g3, -⟩ := hOB
  have hsk2 : ((As.reverse ++ .ref b :: rest).map (cv w)) = (As.map (cv w)).reverse ++ .ref (wz w + b) :: rest.map (cv w) := by
    rw [List.map_append, List.map_reverse, List.map_cons, ← hrho]
    rfl
  show W p l e R s m args below meth c hp locs cs sl Z (F0 m pc ls ((As.reverse ++ .ref b :: rest).map (cv w)))
  rw [hsk2]
  have hrest : ((rest.map (cv w)).map fun v => v.category) = rest.map fun v => v.category := by
    rw [List.map_map]
    exact List.map_congr_left (fun v _ => cv_cat w v)
  have hav : (Value.ref (wz w + b) :: As.map (cv w)).toArray = (((.ref b :: As : List Value)).map (cv w)).toArray := by
    rw [List.map_cons]
    show _ = (Value.ref (rho w b) :: As.map (cv w)).toArray
    rw [hrho]
  refine x_back (va_runU (As := As.map (cv w)) (rest := rest.map (cv w)) (b := wz w + b) (C := Cn) ⟨hx, hb, hml, hown, hts⟩ hct (va_cwA k hts hG rfl rfl rfl (hK.2.2.2.1 _ hnd) hds (by rw [hRm]; exact ⟨hdd, by show 8 + (nL' + 11) + 41 * d' ≤ 41 * d; omega⟩)) ⟨ct_blind w _ S I J, ⟨cell, g1, by rw [g3]; rfl, by rw [g2]; rw [← hq2]; exact hfc⟩, fun U hU hW => ⟨hav, by rw [hU]; exact hR, hK.warm hW⟩⟩ rfl (by rw [List.length_map]; exact hAn) (by rw [← hml]; exact hl.1) rfl (lv_room (by rw [hrest]; exact hroom)) hd (by rw [hRm]; exact ⟨hc, hs⟩)) hL ?_
  intro r S' I' J' hQ hp' locs' hR' hL'
  have := kk r S' I' J' hQ hp' locs' hR' hL'
  rw [List.map_append] at this
  cases r <;> exact this
end Calls3
-- printed by tools/links3.py
theorem mu_X1_318_8 : MU RX1 318 8 ⟨"TourRooms$Exp", "of", "(LTourRooms$State;)I"⟩ yX10_of cX10_of 2 ((some .int)) 1 := ⟨RX10, lw_U q1042 q1044 q1066 q1052 q108 q1053, by decide, ⟨by decide, by decide, by decide +kernel⟩, by decide, ⟨_, rfl, rfl⟩, by decide⟩
theorem mu_X1_318_9 : MU RX1 318 9 ⟨"TourRooms$Exp", "of", "(LTourRooms$State;)I"⟩ yX11_of cX11_of 2 ((some .int)) 1 := ⟨RX11, lw_U q1042 q1044 q1045 q1046 q109 q1047, by decide, ⟨by decide, by decide, by decide +kernel⟩, by decide, ⟨_, rfl, rfl⟩, by decide⟩
theorem mu_X1_318_10 : MU RX1 318 10 ⟨"TourRooms$Exp", "of", "(LTourRooms$State;)I"⟩ yX12_of cX12_of 2 ((some .int)) 1 := ⟨RX13, lw_U q1042 q1044 q1067 q1049 q110 q1050, by decide, ⟨by decide, by decide, by decide +kernel⟩, by decide, ⟨_, rfl, rfl⟩, by decide⟩
theorem mu_X1_318_11 : MU RX1 318 11 ⟨"TourRooms$Exp", "of", "(LTourRooms$State;)I"⟩ yX12_of cX12_of 2 ((some .int)) 1 := ⟨RX14, lw_U q1042 q1044 q1068 q1049 q110 q1050, by decide, ⟨by decide, by decide, by decide +kernel⟩, by decide, ⟨_, rfl, rfl⟩, by decide⟩
theorem mu_X1_318_12 : MU RX1 318 12 ⟨"TourRooms$Exp", "of", "(LTourRooms$State;)I"⟩ yX12_of cX12_of 2 ((some .int)) 1 := ⟨RX15, lw_U q1042 q1044 q1048 q1049 q110 q1050, by decide, ⟨by decide, by decide, by decide +kernel⟩, by decide, ⟨_, rfl, rfl⟩, by decide⟩
theorem mu_X12_16_8 : MU RX12 16 8 ⟨"TourRooms$Exp", "of", "(LTourRooms$State;)I"⟩ yX10_of cX10_of 2 ((some .int)) 1 := ⟨RX10, lw_U q1051 q1044 q1066 q1052 q108 q1053, by decide, ⟨by decide, by decide, by decide +kernel⟩, by decide, ⟨_, rfl, rfl⟩, by decide⟩
theorem mu_X12_16_9 : MU RX12 16 9 ⟨"TourRooms$Exp", "of", "(LTourRooms$State;)I"⟩ yX11_of cX11_of 2 ((some .int)) 1 := ⟨RX11, lw_U q1051 q1044 q1045 q1046 q109 q1047, by decide, ⟨by decide, by decide, by decide +kernel⟩, by decide, ⟨_, rfl, rfl⟩, by decide⟩
theorem mu_X12_16_10 : MU RX12 16 10 ⟨"TourRooms$Exp", "of", "(LTourRooms$State;)I"⟩ yX12_of cX12_of 2 ((some .int)) 1 := ⟨RX13, lw_U q1051 q1044 q1067 q1049 q110 q1050, by decide, ⟨by decide, by decide, by decide +kernel⟩, by decide, ⟨_, rfl, rfl⟩, by decide⟩
theorem mu_X12_16_11 : MU RX12 16 11 ⟨"TourRooms$Exp", "of", "(LTourRooms$State;)I"⟩ yX12_of cX12_of 2 ((some .int)) 1 := ⟨RX14, lw_U q1051 q1044 q1068 q1049 q110 q1050, by decide, ⟨by decide, by decide, by decide +kernel⟩, by decide, ⟨_, rfl, rfl⟩, by decide⟩
theorem mu_X12_16_12 : MU RX12 16 12 ⟨"TourRooms$Exp", "of", "(LTourRooms$State;)I"⟩ yX12_of cX12_of 2 ((some .int)) 1 := ⟨RX15, lw_U q1051 q1044 q1048 q1049 q110 q1050, by decide, ⟨by decide, by decide, by decide +kernel⟩, by decide, ⟨_, rfl, rfl⟩, by decide⟩
theorem mu_X12_20_10 : MU RX12 20 10 ⟨"TourRooms$Two", "by", "(II)I"⟩ yX13_by cX13_by 3 ((some .int)) 2 := ⟨RX13, lw_U q1054 q1056 q1060 q1061 q111 q1062, by decide, ⟨by decide, by decide, by decide +kernel⟩, by decide, ⟨_, rfl, rfl⟩, by decide⟩
theorem mu_X12_20_11 : MU RX12 20 11 ⟨"TourRooms$Two", "by", "(II)I"⟩ yX14_by cX14_by 3 ((some .int)) 2 := ⟨RX14, lw_U q1054 q1056 q1063 q1064 q112 q1065, by decide, ⟨by decide, by decide, by decide +kernel⟩, by decide, ⟨_, rfl, rfl⟩, by decide⟩
theorem mu_X12_20_12 : MU RX12 20 12 ⟨"TourRooms$Two", "by", "(II)I"⟩ yX15_by cX15_by 3 ((some .int)) 2 := ⟨RX15, lw_U q1054 q1056 q1057 q1058 q113 q1059, by decide, ⟨by decide, by decide, by decide +kernel⟩, by decide, ⟨_, rfl, rfl⟩, by decide⟩

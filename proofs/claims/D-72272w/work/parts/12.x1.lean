set_option maxHeartbeats 4000000 in
set_option maxRecDepth 100000 in
theorem mX_inRange (l : Launch) (D : va_G) (cI cD cL : ClassId) (tR tC sz : Nat) (v : Int32) (lo : Int32) (hi : Int32) : Met l yX1_inRange (ws_ yX1_inRange cX1_inRange 3 (some .boolean)) ({ frames := 0, cells := 0, slots := 0, locals := 0 } : Room) (pX [.int v, .int lo, .int hi] D [] cI cD cL tR tC sz) (rI (bI (decide (lo ≤ v ∧ v ≤ hi)))) 0 0 (fun _ => False) := by
  refine mR_ (by decide +kernel) (Nat.le_of_ble_eq_true rfl) ?_
  intro p e s m below meth c A hx hb hr hml hown hts hK hA hE hlocks hin hsz hP hD hS ls hl
  have hown : s.vm.findClass RX1 = some m.cls := hown
  have hl : lv_has ls 3 [(0, .int v), (1, .int lo), (2, .int hi)] := hl
  refine lv_iload_n hx hb dX1_inRange_0 rfl (lv_at hl 0 rfl) ?_
  refine lv_iload_n hx hb dX1_inRange_1 rfl (lv_at hl 1 rfl) ?_
  refine w_icmp_lt hx hb (tgt := 14) dX1_inRange_2 (by decide) (fun c_1 => ?_) (fun c_1 => ?_)
  · refine lv_iconst (v := 0) hx hb dX1_inRange_14 (by decide) ?_
    exact er_z hx hb hr hlocks (by first | exact (congrArg bI (decide_eq_true ⟨i32_of_nlt (by assumption), i32_of_nlt (by assumption)⟩)).symm | exact (congrArg bI (decide_eq_false (fun h => by first | exact i32_le h.1 (by assumption) | exact i32_le h.2 (by assumption)))).symm) dX1_inRange_15
  · refine lv_iload_n hx hb dX1_inRange_5 rfl (lv_at hl 0 rfl) ?_
    refine lv_iload_n hx hb dX1_inRange_6 rfl (lv_at hl 2 rfl) ?_
    refine w_icmp_gt hx hb (tgt := 14) dX1_inRange_7 (by decide) (fun c_2 => ?_) (fun c_2 => ?_)
    · refine lv_iconst (v := 0) hx hb dX1_inRange_14 (by decide) ?_
      exact er_z hx hb hr hlocks (by first | exact (congrArg bI (decide_eq_true ⟨i32_of_nlt (by assumption), i32_of_nlt (by assumption)⟩)).symm | exact (congrArg bI (decide_eq_false (fun h => by first | exact i32_le h.1 (by assumption) | exact i32_le h.2 (by assumption)))).symm) dX1_inRange_15
    · refine lv_iconst (v := 1) hx hb dX1_inRange_10 (by decide) ?_
      refine lv_goto (tgt := 15) hx hb dX1_inRange_11 (by decide) ?_
      exact er_z hx hb hr hlocks (by first | exact (congrArg bI (decide_eq_true ⟨i32_of_nlt (by assumption), i32_of_nlt (by assumption)⟩)).symm | exact (congrArg bI (decide_eq_false (fun h => by first | exact i32_le h.1 (by assumption) | exact i32_le h.2 (by assumption)))).symm) dX1_inRange_15

set_option maxHeartbeats 4000000 in
set_option maxRecDepth 100000 in
theorem mX_has (l : Launch) (D : va_G) (cI cD cL : ClassId) (tR tC sz : Nat) (S : Int32) (k : Nat) : Met l yX1_has (ws_ yX1_has cX1_has 2 (some .boolean)) ({ frames := 0, cells := 0, slots := 0, locals := 0 } : Room) (pX [.int S, .int (nI k)] D [] cI cD cL tR tC sz) (rI (bI (hasB S k))) 0 0 (fun _ => False) := by
  refine mR_ (by decide +kernel) (Nat.le_of_ble_eq_true rfl) ?_
  intro p e s m below meth c A hx hb hr hml hown hts hK hA hE hlocks hin hsz hP hD hS ls hl
  have hown : s.vm.findClass RX1 = some m.cls := hown
  have hl : lv_has ls 2 [(0, .int S), (1, .int (nI k))] := hl
  refine lv_iload_n hx hb dX1_has_0 rfl (lv_at hl 0 rfl) ?_
  refine lv_iload_n hx hb dX1_has_1 rfl (lv_at hl 1 rfl) ?_
  refine lv_ishr hx hb dX1_has_2 ?_
  refine lv_iconst (v := 1) hx hb dX1_has_3 (by decide) ?_
  refine lv_iand hx hb dX1_has_4 ?_
  refine lv_iconst (v := 1) hx hb dX1_has_5 (by decide) ?_
  refine w_icmp_neH hx hb S k (tgt := 13) dX1_has_6 (by decide) (fun c_1 => ?_) (fun c_1 => ?_)
  · refine lv_iconst (v := 0) hx hb dX1_has_13 (by decide) ?_
    exact er_z hx hb hr hlocks (by first | exact (congrArg bI (by assumption : hasB S k = true)).symm | exact (congrArg bI (Bool.eq_false_iff.mpr (by assumption) : hasB S k = false)).symm) dX1_has_14
  · refine lv_iconst (v := 1) hx hb dX1_has_9 (by decide) ?_
    refine lv_goto (tgt := 14) hx hb dX1_has_10 (by decide) ?_
    exact er_z hx hb hr hlocks (by first | exact (congrArg bI (by assumption : hasB S k = true)).symm | exact (congrArg bI (Bool.eq_false_iff.mpr (by assumption) : hasB S k = false)).symm) dX1_has_14

set_option maxHeartbeats 4000000 in
set_option maxRecDepth 100000 in
theorem mX_scaled (l : Launch) (D : va_G) (cI cD cL : ClassId) (tR tC sz : Nat) (v : Int32) (pc : Int32) : Met l yX1_scaled (ws_ yX1_scaled cX1_scaled 2 (some .int)) ({ frames := 0, cells := 0, slots := 0, locals := 0 } : Room) (pX [.int v, .int pc] D [] cI cD cL tR tC sz) (rI (scI v pc)) 0 0 (fun _ => False) := by
  refine mR_ (by decide +kernel) (Nat.le_of_ble_eq_true rfl) ?_
  intro p e s m below meth c A hx hb hr hml hown hts hK hA hE hlocks hin hsz hP hD hS ls hl
  have hown : s.vm.findClass RX1 = some m.cls := hown
  have hl : lv_has ls 2 [(0, .int v), (1, .int pc)] := hl
  refine lv_iload_n hx hb dX1_scaled_0 rfl (lv_at hl 0 rfl) ?_
  refine lv_iload_n hx hb dX1_scaled_1 rfl (lv_at hl 1 rfl) ?_
  refine lv_imul hx hb dX1_scaled_2 ?_
  refine lv_bipush (v := 50) hx hb dX1_scaled_3 (by decide) ?_
  refine lv_iadd hx hb dX1_scaled_5 ?_
  refine lv_bipush (v := 100) hx hb dX1_scaled_6 (by decide) ?_
  refine lv_idiv hx hb dX1_scaled_8 (by decide) ?_
  exact er_i hx hb hr hlocks rfl dX1_scaled_9

set_option maxHeartbeats 4000000 in
set_option maxRecDepth 100000 in
theorem mX_total (l : Launch) (D : va_G) (cI cD cL : ClassId) (tR tC sz : Nat) (a0 : Nat) (f : Nat → Int32) : Met l yX1_total (ws_ yX1_total cX1_total 6 (some .int)) ({ frames := 0, cells := 0, slots := 0, locals := 0 } : Room) (pX [.ref a0] D [(a0, .inl (cI, 6, .inl f))] cI cD cL tR tC sz) (rI (bx_sum f 6)) 0 0 (fun _ => False) := by
  refine mR_ (by decide +kernel) (Nat.le_of_ble_eq_true rfl) ?_
  intro p e s m below meth c A hx hb hr hml hown hts hK hA hE hlocks hin hsz hP hD hS ls hl
  have hown : s.vm.findClass RX1 = some m.cls := hown
  have hl : lv_has ls 6 [(0, .ref a0)] := hl
  refine lv_iconst (v := 0) hx hb dX1_total_0 (by decide) ?_
  refine lv_istore_n (lv' := [(1, .int 0), (0, .ref a0)]) hx hb dX1_total_1 rfl hl (Nat.le_of_ble_eq_true rfl) rfl (fun ls hl => ?_)
  refine lv_aload_n hx hb dX1_total_2 rfl (lv_at hl 1 rfl) ?_
  refine lv_astore_n (lv' := [(2, .ref a0), (1, .int 0), (0, .ref a0)]) hx hb dX1_total_3 rfl hl (Nat.le_of_ble_eq_true rfl) rfl (fun ls hl => ?_)
  refine lv_aload_n hx hb dX1_total_4 rfl (lv_at hl 0 rfl) ?_
  refine va_alen (v := nI 6) hx hb hK hP 0 0 rfl rfl rfl dX1_total_5 ?_
  refine lv_istore_n (lv' := [(3, .int (nI 6)), (2, .ref a0), (1, .int 0), (0, .ref a0)]) hx hb dX1_total_6 rfl hl (Nat.le_of_ble_eq_true rfl) rfl (fun ls hl => ?_)
  refine lv_iconst (v := 0) hx hb dX1_total_7 (by decide) ?_
  refine lv_istore (lv' := [(4, .int 0), (3, .int (nI 6)), (2, .ref a0), (1, .int 0), (0, .ref a0)]) hx hb dX1_total_8 hl (Nat.le_of_ble_eq_true rfl) rfl (fun ls hl => ?_)
  have L_1 : ∀ (N : Nat) (i : Nat), 6 - i < N → (i ≤ 6) → ∀ ls : Array Slot, lv_has ls 6 [(4, .int (nI i)), (3, .int (nI 6)), (2, .ref a0), (1, .int (bx_sum f i)), (0, .ref a0)] → W p l e ({ frames := 0, cells := 0, slots := 0, locals := 0 } : Room) s m ([.ref a0] : List Value).toArray below meth c s.heap [] 0 0 (MQ below (rI (bx_sum f 6)) ([.ref a0] : List Value).toArray s 0 0 (fun _ => False)) (F0 m 10 ls []) := by
    intro N
    induction N with
    | zero => intro i hN; exact absurd hN (Nat.not_lt_zero _)
    | succ N ih =>
      intro i hN hi ls hl
      refine lv_iload hx hb dX1_total_10 (lv_at hl 0 rfl) ?_
      refine lv_iload_n hx hb dX1_total_12 rfl (lv_at hl 1 rfl) ?_
      refine w_icmp_geN hx hb i 6 (by omega) (by omega) (tgt := 33) dX1_total_13 (by decide) (fun c_2 => ?_) (fun c_2 => ?_)
      · refine lv_iload_n hx hb dX1_total_33 rfl (lv_at hl 3 rfl) ?_
        exact er_i hx hb hr hlocks (by rw [show i = 6 by omega]) dX1_total_34
      · refine lv_aload_n hx hb dX1_total_16 rfl (lv_at hl 2 rfl) ?_
        refine lv_iload hx hb dX1_total_17 (lv_at hl 0 rfl) ?_
        refine w_iald hx hb hK hP 0 0 rfl rfl i (by omega) (by decide) dX1_total_19 ?_
        refine lv_istore (lv' := [(5, .int (f i)), (4, .int (nI i)), (3, .int (nI 6)), (2, .ref a0), (1, .int (bx_sum f i)), (0, .ref a0)]) hx hb dX1_total_20 hl (Nat.le_of_ble_eq_true rfl) rfl (fun ls hl => ?_)
        refine lv_iload_n hx hb dX1_total_22 rfl (lv_at hl 4 rfl) ?_
        refine lv_iload hx hb dX1_total_23 (lv_at hl 0 rfl) ?_
        refine lv_iadd hx hb dX1_total_25 ?_
        refine lv_istore_n (lv' := [(1, .int ((bx_sum f i) + (f i))), (5, .int (f i)), (4, .int (nI i)), (3, .int (nI 6)), (2, .ref a0), (0, .ref a0)]) hx hb dX1_total_26 rfl hl (Nat.le_of_ble_eq_true rfl) rfl (fun ls hl => ?_)
        refine w_iinc hx hb i (lv' := [(4, .int (nI (i + 1))), (1, .int ((bx_sum f i) + (f i))), (5, .int (f i)), (3, .int (nI 6)), (2, .ref a0), (0, .ref a0)]) dX1_total_27 hl (k := 2) rfl (Nat.le_of_ble_eq_true rfl) rfl (fun ls hl => ?_)
        refine lv_goto (tgt := 10) hx hb dX1_total_30 (by decide) ?_
        exact ih (i + 1) (by omega) (by omega) ls (lv_sub hl [0, 3, 4, 1, 5] rfl)
  exact L_1 ((6 - 0) + 1) 0 (Nat.lt_succ_self _) (by omega) ls (lv_sub hl [0, 1, 2, 3, 4] rfl)

set_option maxHeartbeats 4000000 in
set_option maxRecDepth 100000 in
theorem mX_require (l : Launch) (D : va_G) (cI cD cL : ClassId) (tR tC sz : Nat) (b : Bool) (hb1 : b = true) : Met l yX1_require (ws_ yX1_require cX1_require 1 none) ({ frames := 0, cells := 0, slots := 0, locals := 0 } : Room) (pX [.int (bI b)] D [] cI cD cL tR tC sz) rV 0 0 (fun _ => False) := by
  refine mR_ (by decide +kernel) (Nat.le_of_ble_eq_true rfl) ?_
  intro p e s m below meth c A hx hb hr hml hown hts hK hA hE hlocks hin hsz hP hD hS ls hl
  have hown : s.vm.findClass RX1 = some m.cls := hown
  have hl : lv_has ls 1 [(0, .int (bI b))] := hl
  refine lv_iload_n hx hb dX1_require_0 rfl (lv_at hl 0 rfl) ?_
  refine w_if_neB hx hb b (tgt := 12) dX1_require_1 (by decide) (fun c_1 => ?_) (fun c_1 => ?_)
  · exact er_v hx hb hr hlocks dX1_require_12
  · exact absurd hb1 c_1

theorem xat_IllegalArgumentException : (vx_at0 RX1 3 "java/lang/IllegalArgumentException" nmsX).all (fun w => decide (w ∈ xTw) || (decide (w ∈ lw_tbl) && goodWord w)) = true := by decide +kernel
theorem xat_IllegalArgumentExceptiong : (Cond.classLink RX1 1 "java/lang/IllegalArgumentException" :: Cond.initialized "java/lang/IllegalArgumentException" :: vx_at0 RX1 3 "java/lang/IllegalArgumentException" nmsX).all (fun w => vx_ot w) = true := by decide +kernel
set_option maxHeartbeats 4000000 in
set_option maxRecDepth 100000 in
theorem tX_require (l : Launch) (D : va_G) (cI cD cL : ClassId) (tR tC sz : Nat) (b : Bool) (hb1 : ¬ b = true) (hfl : l.stackTraces = false) : xThr l yX1_require (ws_ yX1_require cX1_require 1 none) ({ frames := 6, cells := 1, slots := 6, locals := 81 } : Room) (pX [.int (bI b)] D [] cI cD cL tR tC sz) "java/lang/IllegalArgumentException" := by
  refine mT_ (by decide +kernel) (Nat.le_of_ble_eq_true rfl) ?_
  intro p e s m below meth c A hx hb hr hml hown hts hK hA hE hlocks hin hsz hP hD hS hout ls hl
  have hown : s.vm.findClass RX1 = some m.cls := hown
  have hl : lv_has ls 1 [(0, .int (bI b))] := hl
  refine lv_iload_n hx hb dX1_require_0 rfl (lv_at hl 0 rfl) ?_
  refine w_if_neB hx hb b (tgt := 12) dX1_require_1 (by decide) (fun c_1 => ?_) (fun c_1 => ?_)
  · exact absurd c_1 hb1
  · exact w_throw0 hx hb hfl hown hts hE (by decide +kernel) (by decide +kernel) q336 q57 xat_IllegalArgumentException xat_IllegalArgumentExceptiong (by rw [hml]; exact hl.1) dX1_require_4 dX1_require_7 dX1_require_8 dX1_require_11 hout hlocks (Nat.le_of_ble_eq_true rfl) (Nat.le_of_ble_eq_true rfl) (Nat.le_of_ble_eq_true rfl) (Nat.le_of_ble_eq_true rfl)

set_option maxHeartbeats 4000000 in
set_option maxRecDepth 100000 in
theorem mX_requireArm (l : Launch) (D : va_G) (cI cD cL : ClassId) (tR tC sz : Nat) (ad : Nat → Nat) (n : Nat) (fi : Nat → Int32) (fo : Nat → Int32) (fw : Nat → Int32) (fe : Nat → UInt64) (d : Int32) (hs : Int64) (arm : Int32) (hok : decide (0 ≤ arm ∧ arm ≤ nI n - 1) = true) : Met l yX1_requireArm (ws_ yX1_requireArm cX1_requireArm 2 none) ({ frames := 1, cells := 0, slots := 0, locals := 22 } : Room) (pX [.ref (ad 0), .int arm] D [(ad 0, .inr (0, [.ref (ad 1), .ref (ad 2), .int (nI n), .ref (ad 3), .ref (ad 4), .ref (ad 5), .ref (ad 6), .int d, .long hs])), (ad 1, .inr (1, [])), (ad 2, .inr (2, [])), (ad 3, .inl (cI, 6, .inl fi)), (ad 4, .inl (cI, 6, .inl fo)), (ad 5, .inl (cI, 36, .inl fw)), (ad 6, .inl (cD, 36, .inr (.inr (.inr (.inl fe)))))] cI cD cL tR tC sz) rV 0 0 (fun _ => False) := by
  refine mR_ (by decide +kernel) (Nat.le_of_ble_eq_true rfl) ?_
  intro p e s m below meth c A hx hb hr hml hown hts hK hA hE hlocks hin hsz hP hD hS ls hl
  have hown : s.vm.findClass RX1 = some m.cls := hown
  have hl : lv_has ls 2 [(0, .ref (ad 0)), (1, .int arm)] := hl
  refine lv_iload_n hx hb dX1_requireArm_0 rfl (lv_at hl 1 rfl) ?_
  refine lv_iconst (v := 0) hx hb dX1_requireArm_1 (by decide) ?_
  refine lv_aload_n hx hb dX1_requireArm_2 rfl (lv_at hl 0 rfl) ?_
  refine va_get (D := D) (ci := 0) (v := .int (nI n)) (C := RX1) (T := TX1) (N := 9) hx hb hts in_X1 hown hK hP 0 rfl rfl 2 (by decide) (hts _ q103) (fun _ h9 => h9) rfl dX1_requireArm_3 ?_
  refine lv_iconst (v := 1) hx hb dX1_requireArm_6 (by decide) ?_
  refine lv_isub hx hb dX1_requireArm_7 ?_
  refine kr_i (va_runS (As := [.int arm, .int 0, .int ((nI n) - 1)]) (rest := []) ⟨hx, hb, hml, hown, hts⟩ (mX_inRange l D cI cD cL tR tC s.heap.size arm 0 ((nI n) - 1)) (va_cwS 3 hts (lw_S q330 q331 q50 q332) rfl rfl rfl (by decide +kernel) ⟨Nat.le_of_ble_eq_true rfl, Nat.le_of_ble_eq_true rfl⟩) (pS_ (wc := []) hK hP hD hS hA hE [] rfl rfl rfl) rfl rfl hl.1 rfl (lv_room (Nat.le_of_ble_eq_true rfl)) dX1_requireArm_8 ⟨(Nat.le_of_ble_eq_true rfl), (Nat.le_of_ble_eq_true rfl)⟩) ?_
  refine w_if_neB hx hb (decide (0 ≤ arm ∧ arm ≤ ((nI n) - 1))) (tgt := 22) dX1_requireArm_11 (by decide) (fun c_1 => ?_) (fun c_1 => ?_)
  · exact er_v hx hb hr hlocks dX1_requireArm_22
  · exact absurd hok c_1

theorem xat_IndexOutOfBoundsException : (vx_at0 RX1 19 "java/lang/IndexOutOfBoundsException" nmsX).all (fun w => decide (w ∈ xTw) || (decide (w ∈ lw_tbl) && goodWord w)) = true := by decide +kernel
theorem xat_IndexOutOfBoundsExceptiong : (Cond.classLink RX1 17 "java/lang/IndexOutOfBoundsException" :: Cond.initialized "java/lang/IndexOutOfBoundsException" :: vx_at0 RX1 19 "java/lang/IndexOutOfBoundsException" nmsX).all (fun w => vx_ot w) = true := by decide +kernel
set_option maxHeartbeats 4000000 in
set_option maxRecDepth 100000 in
theorem tX_requireArm (l : Launch) (D : va_G) (cI cD cL : ClassId) (tR tC sz : Nat) (ad : Nat → Nat) (n : Nat) (fi : Nat → Int32) (fo : Nat → Int32) (fw : Nat → Int32) (fe : Nat → UInt64) (d : Int32) (hs : Int64) (arm : Int32) (hok : ¬ decide (0 ≤ arm ∧ arm ≤ nI n - 1) = true) (hfl : l.stackTraces = false) : xThr l yX1_requireArm (ws_ yX1_requireArm cX1_requireArm 2 none) ({ frames := 6, cells := 1, slots := 6, locals := 81 } : Room) (pX [.ref (ad 0), .int arm] D [(ad 0, .inr (0, [.ref (ad 1), .ref (ad 2), .int (nI n), .ref (ad 3), .ref (ad 4), .ref (ad 5), .ref (ad 6), .int d, .long hs])), (ad 1, .inr (1, [])), (ad 2, .inr (2, [])), (ad 3, .inl (cI, 6, .inl fi)), (ad 4, .inl (cI, 6, .inl fo)), (ad 5, .inl (cI, 36, .inl fw)), (ad 6, .inl (cD, 36, .inr (.inr (.inr (.inl fe)))))] cI cD cL tR tC sz) "java/lang/IndexOutOfBoundsException" := by
  refine mT_ (by decide +kernel) (Nat.le_of_ble_eq_true rfl) ?_
  intro p e s m below meth c A hx hb hr hml hown hts hK hA hE hlocks hin hsz hP hD hS hout ls hl
  have hown : s.vm.findClass RX1 = some m.cls := hown
  have hl : lv_has ls 2 [(0, .ref (ad 0)), (1, .int arm)] := hl
  refine lv_iload_n hx hb dX1_requireArm_0 rfl (lv_at hl 1 rfl) ?_
  refine lv_iconst (v := 0) hx hb dX1_requireArm_1 (by decide) ?_
  refine lv_aload_n hx hb dX1_requireArm_2 rfl (lv_at hl 0 rfl) ?_
  refine va_get (D := D) (ci := 0) (v := .int (nI n)) (C := RX1) (T := TX1) (N := 9) hx hb hts in_X1 hown hK hP 0 rfl rfl 2 (by decide) (hts _ q103) (fun _ h9 => h9) rfl dX1_requireArm_3 ?_
  refine lv_iconst (v := 1) hx hb dX1_requireArm_6 (by decide) ?_
  refine lv_isub hx hb dX1_requireArm_7 ?_
  refine kr_i (va_runS (As := [.int arm, .int 0, .int ((nI n) - 1)]) (rest := []) ⟨hx, hb, hml, hown, hts⟩ (mX_inRange l D cI cD cL tR tC s.heap.size arm 0 ((nI n) - 1)) (va_cwS 3 hts (lw_S q330 q331 q50 q332) rfl rfl rfl (by decide +kernel) ⟨Nat.le_of_ble_eq_true rfl, Nat.le_of_ble_eq_true rfl⟩) (pS_ (wc := []) hK hP hD hS hA hE [] rfl rfl rfl) rfl rfl hl.1 rfl (lv_room (Nat.le_of_ble_eq_true rfl)) dX1_requireArm_8 ⟨(Nat.le_of_ble_eq_true rfl), (Nat.le_of_ble_eq_true rfl)⟩) ?_
  refine w_if_neB hx hb (decide (0 ≤ arm ∧ arm ≤ ((nI n) - 1))) (tgt := 22) dX1_requireArm_11 (by decide) (fun c_1 => ?_) (fun c_1 => ?_)
  · exact absurd c_1 hok
  · exact w_throw0 hx hb hfl hown hts hE (by decide +kernel) (by decide +kernel) q450 q58 xat_IndexOutOfBoundsException xat_IndexOutOfBoundsExceptiong (by rw [hml]; exact hl.1) dX1_requireArm_14 dX1_requireArm_17 dX1_requireArm_18 dX1_requireArm_21 hout hlocks (Nat.le_of_ble_eq_true rfl) (Nat.le_of_ble_eq_true rfl) (Nat.le_of_ble_eq_true rfl) (Nat.le_of_ble_eq_true rfl)

set_option maxHeartbeats 4000000 in
set_option maxRecDepth 100000 in
theorem mX_requireTurn (l : Launch) (D : va_G) (cI cD cL : ClassId) (tR tC sz : Nat) (ad : Nat → Nat) (n : Nat) (fi : Nat → Int32) (fo : Nat → Int32) (fw : Nat → Int32) (fe : Nat → UInt64) (d : Int32) (hs : Int64) (fr : Int32) (to : Int32) (hok1 : decide (0 ≤ fr ∧ fr ≤ nI n - 1) = true) (hok2 : decide (0 ≤ to ∧ to ≤ nI n - 1) = true) : Met l yX1_requireTurn (ws_ yX1_requireTurn cX1_requireTurn 3 none) ({ frames := 2, cells := 0, slots := 0, locals := 43 } : Room) (pX [.ref (ad 0), .int fr, .int to] D [(ad 0, .inr (0, [.ref (ad 1), .ref (ad 2), .int (nI n), .ref (ad 3), .ref (ad 4), .ref (ad 5), .ref (ad 6), .int d, .long hs])), (ad 1, .inr (1, [])), (ad 2, .inr (2, [])), (ad 3, .inl (cI, 6, .inl fi)), (ad 4, .inl (cI, 6, .inl fo)), (ad 5, .inl (cI, 36, .inl fw)), (ad 6, .inl (cD, 36, .inr (.inr (.inr (.inl fe)))))] cI cD cL tR tC sz) rV 0 0 (fun _ => False) := by
  refine mR_ (by decide +kernel) (Nat.le_of_ble_eq_true rfl) ?_
  intro p e s m below meth c A hx hb hr hml hown hts hK hA hE hlocks hin hsz hP hD hS ls hl
  have hown : s.vm.findClass RX1 = some m.cls := hown
  have hl : lv_has ls 3 [(0, .ref (ad 0)), (1, .int fr), (2, .int to)] := hl
  refine lv_aload_n hx hb dX1_requireTurn_0 rfl (lv_at hl 0 rfl) ?_
  refine lv_iload_n hx hb dX1_requireTurn_1 rfl (lv_at hl 1 rfl) ?_
  refine kr_v (va_runV (As := [.int fr]) (rest := []) ⟨hx, hb, hml, hown, hts⟩ (mX_requireArm l D cI cD cL tR tC s.heap.size ad n fi fo fw fe d hs fr hok1) (cwV 1 hts (lw_V q446 q448 qs19 q50 q449) rfl rfl rfl (by decide +kernel) ⟨Nat.le_of_ble_eq_true rfl, Nat.le_of_ble_eq_true rfl⟩) (pV_ (wc := [(ad 0, .inr (0, [.ref (ad 1), .ref (ad 2), .int (nI n), .ref (ad 3), .ref (ad 4), .ref (ad 5), .ref (ad 6), .int d, .long hs])), (ad 1, .inr (1, [])), (ad 2, .inr (2, [])), (ad 3, .inl (cI, 6, .inl fi)), (ad 4, .inl (cI, 6, .inl fo)), (ad 5, .inl (cI, 36, .inl fw)), (ad 6, .inl (cD, 36, .inr (.inr (.inr (.inl fe)))))]) (va_recv hK hP (ci := 0) (q0 := 0) rfl rfl) hK hP hD hS hA hE [0, 1, 2, 3, 4, 5, 6] rfl rfl rfl) rfl rfl hl.1 rfl (lv_room (Nat.le_of_ble_eq_true rfl)) dX1_requireTurn_2 ⟨(Nat.le_of_ble_eq_true rfl), (Nat.le_of_ble_eq_true rfl)⟩) ?_
  refine lv_aload_n hx hb dX1_requireTurn_5 rfl (lv_at hl 0 rfl) ?_
  refine lv_iload_n hx hb dX1_requireTurn_6 rfl (lv_at hl 2 rfl) ?_
  refine kr_v (va_runV (As := [.int to]) (rest := []) ⟨hx, hb, hml, hown, hts⟩ (mX_requireArm l D cI cD cL tR tC s.heap.size ad n fi fo fw fe d hs to hok2) (cwV 1 hts (lw_V q446 q448 qs19 q50 q449) rfl rfl rfl (by decide +kernel) ⟨Nat.le_of_ble_eq_true rfl, Nat.le_of_ble_eq_true rfl⟩) (pV_ (wc := [(ad 0, .inr (0, [.ref (ad 1), .ref (ad 2), .int (nI n), .ref (ad 3), .ref (ad 4), .ref (ad 5), .ref (ad 6), .int d, .long hs])), (ad 1, .inr (1, [])), (ad 2, .inr (2, [])), (ad 3, .inl (cI, 6, .inl fi)), (ad 4, .inl (cI, 6, .inl fo)), (ad 5, .inl (cI, 36, .inl fw)), (ad 6, .inl (cD, 36, .inr (.inr (.inr (.inl fe)))))]) (va_recv hK hP (ci := 0) (q0 := 0) rfl rfl) hK hP hD hS hA hE [0, 1, 2, 3, 4, 5, 6] rfl rfl rfl) rfl rfl hl.1 rfl (lv_room (Nat.le_of_ble_eq_true rfl)) dX1_requireTurn_7 ⟨(Nat.le_of_ble_eq_true rfl), (Nat.le_of_ble_eq_true rfl)⟩) ?_
  exact er_v hx hb hr hlocks dX1_requireTurn_10

set_option maxHeartbeats 4000000 in
set_option maxRecDepth 100000 in
theorem tX_requireTurn1 (l : Launch) (D : va_G) (cI cD cL : ClassId) (tR tC sz : Nat) (ad : Nat → Nat) (n : Nat) (fi : Nat → Int32) (fo : Nat → Int32) (fw : Nat → Int32) (fe : Nat → UInt64) (d : Int32) (hs : Int64) (fr : Int32) (to : Int32) (hok1 : ¬ decide (0 ≤ fr ∧ fr ≤ nI n - 1) = true) (hfl : l.stackTraces = false) : xThr l yX1_requireTurn (ws_ yX1_requireTurn cX1_requireTurn 3 none) ({ frames := 7, cells := 1, slots := 6, locals := 102 } : Room) (pX [.ref (ad 0), .int fr, .int to] D [(ad 0, .inr (0, [.ref (ad 1), .ref (ad 2), .int (nI n), .ref (ad 3), .ref (ad 4), .ref (ad 5), .ref (ad 6), .int d, .long hs])), (ad 1, .inr (1, [])), (ad 2, .inr (2, [])), (ad 3, .inl (cI, 6, .inl fi)), (ad 4, .inl (cI, 6, .inl fo)), (ad 5, .inl (cI, 36, .inl fw)), (ad 6, .inl (cD, 36, .inr (.inr (.inr (.inl fe)))))] cI cD cL tR tC sz) "java/lang/IndexOutOfBoundsException" := by
  refine mT_ (by decide +kernel) (Nat.le_of_ble_eq_true rfl) ?_
  intro p e s m below meth c A hx hb hr hml hown hts hK hA hE hlocks hin hsz hP hD hS hout ls hl
  have hown : s.vm.findClass RX1 = some m.cls := hown
  have hl : lv_has ls 3 [(0, .ref (ad 0)), (1, .int fr), (2, .int to)] := hl
  refine lv_aload_n hx hb dX1_requireTurn_0 rfl (lv_at hl 0 rfl) ?_
  refine lv_iload_n hx hb dX1_requireTurn_1 rfl (lv_at hl 1 rfl) ?_
  exact kx_out (vx_runV (As := [.int fr]) (rest := []) ⟨hx, hb, hml, hown, hts⟩ (tX_requireArm l D cI cD cL tR tC s.heap.size ad n fi fo fw fe d hs fr hok1 (by first | assumption | omega)) (cwV 1 hts (lw_V q446 q448 qs19 q50 q449) rfl rfl rfl (by decide +kernel) ⟨Nat.le_of_ble_eq_true rfl, Nat.le_of_ble_eq_true rfl⟩) (pV_ (wc := [(ad 0, .inr (0, [.ref (ad 1), .ref (ad 2), .int (nI n), .ref (ad 3), .ref (ad 4), .ref (ad 5), .ref (ad 6), .int d, .long hs])), (ad 1, .inr (1, [])), (ad 2, .inr (2, [])), (ad 3, .inl (cI, 6, .inl fi)), (ad 4, .inl (cI, 6, .inl fo)), (ad 5, .inl (cI, 36, .inl fw)), (ad 6, .inl (cD, 36, .inr (.inr (.inr (.inl fe)))))]) (va_recv hK hP (ci := 0) (q0 := 0) rfl rfl) hK hP hD hS hA hE [0, 1, 2, 3, 4, 5, 6] rfl rfl rfl) rfl rfl hl.1 rfl (lv_room (Nat.le_of_ble_eq_true rfl)) dX1_requireTurn_2 ⟨(Nat.le_of_ble_eq_true rfl), (Nat.le_of_ble_eq_true rfl)⟩) hS hout hlocks rfl rfl

set_option maxHeartbeats 4000000 in
set_option maxRecDepth 100000 in
theorem tX_requireTurn2 (l : Launch) (D : va_G) (cI cD cL : ClassId) (tR tC sz : Nat) (ad : Nat → Nat) (n : Nat) (fi : Nat → Int32) (fo : Nat → Int32) (fw : Nat → Int32) (fe : Nat → UInt64) (d : Int32) (hs : Int64) (fr : Int32) (to : Int32) (hok1 : decide (0 ≤ fr ∧ fr ≤ nI n - 1) = true) (hok2 : ¬ decide (0 ≤ to ∧ to ≤ nI n - 1) = true) (hfl : l.stackTraces = false) : xThr l yX1_requireTurn (ws_ yX1_requireTurn cX1_requireTurn 3 none) ({ frames := 7, cells := 1, slots := 6, locals := 102 } : Room) (pX [.ref (ad 0), .int fr, .int to] D [(ad 0, .inr (0, [.ref (ad 1), .ref (ad 2), .int (nI n), .ref (ad 3), .ref (ad 4), .ref (ad 5), .ref (ad 6), .int d, .long hs])), (ad 1, .inr (1, [])), (ad 2, .inr (2, [])), (ad 3, .inl (cI, 6, .inl fi)), (ad 4, .inl (cI, 6, .inl fo)), (ad 5, .inl (cI, 36, .inl fw)), (ad 6, .inl (cD, 36, .inr (.inr (.inr (.inl fe)))))] cI cD cL tR tC sz) "java/lang/IndexOutOfBoundsException" := by
  refine mT_ (by decide +kernel) (Nat.le_of_ble_eq_true rfl) ?_
  intro p e s m below meth c A hx hb hr hml hown hts hK hA hE hlocks hin hsz hP hD hS hout ls hl
  have hown : s.vm.findClass RX1 = some m.cls := hown
  have hl : lv_has ls 3 [(0, .ref (ad 0)), (1, .int fr), (2, .int to)] := hl
  refine lv_aload_n hx hb dX1_requireTurn_0 rfl (lv_at hl 0 rfl) ?_
  refine lv_iload_n hx hb dX1_requireTurn_1 rfl (lv_at hl 1 rfl) ?_
  refine kr_v (va_runV (As := [.int fr]) (rest := []) ⟨hx, hb, hml, hown, hts⟩ (mX_requireArm l D cI cD cL tR tC s.heap.size ad n fi fo fw fe d hs fr hok1) (cwV 1 hts (lw_V q446 q448 qs19 q50 q449) rfl rfl rfl (by decide +kernel) ⟨Nat.le_of_ble_eq_true rfl, Nat.le_of_ble_eq_true rfl⟩) (pV_ (wc := [(ad 0, .inr (0, [.ref (ad 1), .ref (ad 2), .int (nI n), .ref (ad 3), .ref (ad 4), .ref (ad 5), .ref (ad 6), .int d, .long hs])), (ad 1, .inr (1, [])), (ad 2, .inr (2, [])), (ad 3, .inl (cI, 6, .inl fi)), (ad 4, .inl (cI, 6, .inl fo)), (ad 5, .inl (cI, 36, .inl fw)), (ad 6, .inl (cD, 36, .inr (.inr (.inr (.inl fe)))))]) (va_recv hK hP (ci := 0) (q0 := 0) rfl rfl) hK hP hD hS hA hE [0, 1, 2, 3, 4, 5, 6] rfl rfl rfl) rfl rfl hl.1 rfl (lv_room (Nat.le_of_ble_eq_true rfl)) dX1_requireTurn_2 ⟨(Nat.le_of_ble_eq_true rfl), (Nat.le_of_ble_eq_true rfl)⟩) ?_
  refine lv_aload_n hx hb dX1_requireTurn_5 rfl (lv_at hl 0 rfl) ?_
  refine lv_iload_n hx hb dX1_requireTurn_6 rfl (lv_at hl 2 rfl) ?_
  exact kx_out (vx_runV (As := [.int to]) (rest := []) ⟨hx, hb, hml, hown, hts⟩ (tX_requireArm l D cI cD cL tR tC s.heap.size ad n fi fo fw fe d hs to hok2 (by first | assumption | omega)) (cwV 1 hts (lw_V q446 q448 qs19 q50 q449) rfl rfl rfl (by decide +kernel) ⟨Nat.le_of_ble_eq_true rfl, Nat.le_of_ble_eq_true rfl⟩) (pV_ (wc := [(ad 0, .inr (0, [.ref (ad 1), .ref (ad 2), .int (nI n), .ref (ad 3), .ref (ad 4), .ref (ad 5), .ref (ad 6), .int d, .long hs])), (ad 1, .inr (1, [])), (ad 2, .inr (2, [])), (ad 3, .inl (cI, 6, .inl fi)), (ad 4, .inl (cI, 6, .inl fo)), (ad 5, .inl (cI, 36, .inl fw)), (ad 6, .inl (cD, 36, .inr (.inr (.inr (.inl fe)))))]) (va_recv hK hP (ci := 0) (q0 := 0) rfl rfl) hK hP hD hS hA hE [0, 1, 2, 3, 4, 5, 6] rfl rfl rfl) rfl rfl hl.1 rfl (lv_room (Nat.le_of_ble_eq_true rfl)) dX1_requireTurn_7 ⟨(Nat.le_of_ble_eq_true rfl), (Nat.le_of_ble_eq_true rfl)⟩) hS hout hlocks rfl rfl

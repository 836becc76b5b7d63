set_option maxHeartbeats 4000000 in
set_option maxRecDepth 100000 in
theorem mX_crowdedNow (l : Launch) (D : va_G) (cI cD cL : ClassId) (tR tC sz : Nat) (ad : Nat → Nat) (n : Nat) (fi : Nat → Int32) (fo : Nat → Int32) (fw : Nat → Int32) (fe : Nat → UInt64) (d : Int32) (hs : Int64) (hn : n ≤ 6) : Met l yX1_crowdedNow (ws_ yX1_crowdedNow cX1_crowdedNow 2 (some .int)) ({ frames := 2, cells := 0, slots := 0, locals := 46 } : Room) (pX [.ref (ad 0)] D [(ad 0, .inr (0, [.ref (ad 1), .ref (ad 2), .int (nI n), .ref (ad 3), .ref (ad 4), .ref (ad 5), .ref (ad 6), .int d, .long hs])), (ad 1, .inr (1, [])), (ad 2, .inr (2, [])), (ad 3, .inl (cI, 6, .inl fi)), (ad 4, .inl (cI, 6, .inl fo)), (ad 5, .inl (cI, 36, .inl fw)), (ad 6, .inl (cD, 36, .inr (.inr (.inr (.inl fe)))))] cI cD cL tR tC sz) (rI (crowdX fi fo fw n)) 0 0 (fun _ => False) := by
  refine mR_ (by decide +kernel) (Nat.le_of_ble_eq_true rfl) ?_
  intro p e s m below meth c A hx hb hr hml hown hts hK hA hE hlocks hin hsz hP hD hS ls hl
  have hown : s.vm.findClass RX1 = some m.cls := hown
  have hl : lv_has ls 2 [(0, .ref (ad 0))] := hl
  have h2n : 2 ^ n ≤ 2 ^ 6 := Nat.pow_le_pow_right (by decide) hn
  have h2p : 1 ≤ 2 ^ n := Nat.pow_pos (by decide)
  refine lv_iconst (v := 1) hx hb dX1_crowdedNow_0 (by decide) ?_
  refine lv_istore_n (lv' := [(1, .int 1), (0, .ref (ad 0))]) hx hb dX1_crowdedNow_1 rfl hl (Nat.le_of_ble_eq_true rfl) rfl (fun ls hl => ?_)
  have L_1 : ∀ (N : Nat) (t : Nat), 2 ^ n - t < N → (t ≤ 2 ^ n) → (crF (excX fi fo fw n) (2 ^ n - t) t = crowdX fi fo fw n) → ∀ ls : Array Slot, lv_has ls 2 [(1, .int (nI t)), (0, .ref (ad 0))] → W p l e ({ frames := 2, cells := 0, slots := 0, locals := 46 } : Room) s m ([.ref (ad 0)] : List Value).toArray below meth c s.heap [] 0 0 (MQ below (rI (crowdX fi fo fw n)) ([.ref (ad 0)] : List Value).toArray s 0 0 (fun _ => False)) (F0 m 2 ls []) := by
    intro N
    induction N with
    | zero => intro t hN; exact absurd hN (Nat.not_lt_zero _)
    | succ N ih2 =>
      intro t hN2 ht hc ls hl
      refine lv_iload_n hx hb dX1_crowdedNow_2 rfl (lv_at hl 0 rfl) ?_
      refine lv_iconst (v := 1) hx hb dX1_crowdedNow_3 (by decide) ?_
      refine lv_aload_n hx hb dX1_crowdedNow_4 rfl (lv_at hl 1 rfl) ?_
      refine va_get (D := D) (ci := 0) (v := .int (nI n)) (C := RX1) (T := TX1) (N := 9) hx hb hts in_X1 hown hK hP 0 rfl rfl 2 (by decide) (hts _ q103) (fun _ h9 => h9) rfl dX1_crowdedNow_5 ?_
      refine w_shl1 hx hb n (by omega) dX1_crowdedNow_8 ?_
      refine w_icmp_geN hx hb t (2 ^ n) (by omega) (by omega) (tgt := 28) dX1_crowdedNow_9 (by decide) (fun c_2 => ?_) (fun c_2 => ?_)
      · refine lv_iconst (v := (-1)) hx hb dX1_crowdedNow_28 (by decide) ?_
        exact er_i hx hb hr hlocks (by rw [← hc, show 2 ^ n - t = 0 by omega]; rfl) dX1_crowdedNow_29
      · refine lv_aload_n hx hb dX1_crowdedNow_12 rfl (lv_at hl 1 rfl) ?_
        refine lv_iload_n hx hb dX1_crowdedNow_13 rfl (lv_at hl 0 rfl) ?_
        refine kr_i (va_runV (As := [.int (nI t)]) (rest := []) ⟨hx, hb, hml, hown, hts⟩ (mX_excessOf l D cI cD cL tR tC s.heap.size ad n fi fo fw fe d hs (nI t) (by first | assumption | omega)) (cwV 1 hts (lw_V q167 q169 qs5 q50 q170) rfl rfl rfl (by decide +kernel) ⟨Nat.le_of_ble_eq_true rfl, Nat.le_of_ble_eq_true rfl⟩) (pV_ (wc := [(ad 0, .inr (0, [.ref (ad 1), .ref (ad 2), .int (nI n), .ref (ad 3), .ref (ad 4), .ref (ad 5), .ref (ad 6), .int d, .long hs])), (ad 1, .inr (1, [])), (ad 2, .inr (2, [])), (ad 3, .inl (cI, 6, .inl fi)), (ad 4, .inl (cI, 6, .inl fo)), (ad 5, .inl (cI, 36, .inl fw)), (ad 6, .inl (cD, 36, .inr (.inr (.inr (.inl fe)))))]) (va_recv hK hP (ci := 0) (q0 := 0) rfl rfl) hK hP hD hS hA hE [0, 1, 2, 3, 4, 5, 6] rfl rfl rfl) rfl rfl hl.1 rfl (lv_room (Nat.le_of_ble_eq_true rfl)) dX1_crowdedNow_14 ⟨(Nat.le_of_ble_eq_true rfl), (Nat.le_of_ble_eq_true rfl)⟩) ?_
        refine w_if_le hx hb (tgt := 22) dX1_crowdedNow_17 (by decide) (fun c_3 => ?_) (fun c_3 => ?_)
        · refine w_iinc hx hb t (lv' := [(1, .int (nI (t + 1))), (0, .ref (ad 0))]) dX1_crowdedNow_22 hl (k := 0) rfl (Nat.le_of_ble_eq_true rfl) rfl (fun ls hl => ?_)
          refine lv_goto (tgt := 2) hx hb dX1_crowdedNow_25 (by decide) ?_
          exact ih2 (t + 1) (by omega) (by omega) (by rw [← hc, show 2 ^ n - t = (2 ^ n - (t + 1)) + 1 by omega]; simp only [crF, if_neg ‹¬ 0 < excX fi fo fw n (nI t)›]) ls (lv_sub hl [0, 1] rfl)
        · refine lv_iload_n hx hb dX1_crowdedNow_20 rfl (lv_at hl 0 rfl) ?_
          exact er_i hx hb hr hlocks (by rw [← hc, show 2 ^ n - t = (2 ^ n - (t + 1)) + 1 by omega]; simp only [crF, if_pos ‹0 < excX fi fo fw n (nI t)›]) dX1_crowdedNow_21
  exact L_1 ((2 ^ n - 1) + 1) 1 (Nat.lt_succ_self _) (by omega) rfl ls (lv_sub hl [0, 1] rfl)

set_option maxHeartbeats 4000000 in
set_option maxRecDepth 100000 in
theorem mX_arePossible (l : Launch) (D : va_G) (cI cD cL : ClassId) (tR tC sz : Nat) (ad : Nat → Nat) (n : Nat) (fi : Nat → Int32) (fo : Nat → Int32) (fw : Nat → Int32) (fe : Nat → UInt64) (d : Int32) (hs : Int64) (hn : n ≤ 6) : Met l yX1_arePossible (ws_ yX1_arePossible cX1_arePossible 1 (some .boolean)) ({ frames := 3, cells := 0, slots := 0, locals := 67 } : Room) (pX [.ref (ad 0)] D [(ad 0, .inr (0, [.ref (ad 1), .ref (ad 2), .int (nI n), .ref (ad 3), .ref (ad 4), .ref (ad 5), .ref (ad 6), .int d, .long hs])), (ad 1, .inr (1, [])), (ad 2, .inr (2, [])), (ad 3, .inl (cI, 6, .inl fi)), (ad 4, .inl (cI, 6, .inl fo)), (ad 5, .inl (cI, 36, .inl fw)), (ad 6, .inl (cD, 36, .inr (.inr (.inr (.inl fe)))))] cI cD cL tR tC sz) (rI (bI (possX fi fo fw n))) 0 0 (fun _ => False) := by
  refine mR_ (by decide +kernel) (Nat.le_of_ble_eq_true rfl) ?_
  intro p e s m below meth c A hx hb hr hml hown hts hK hA hE hlocks hin hsz hP hD hS ls hl
  have hown : s.vm.findClass RX1 = some m.cls := hown
  have hl : lv_has ls 1 [(0, .ref (ad 0))] := hl
  refine lv_aload_n hx hb dX1_arePossible_0 rfl (lv_at hl 0 rfl) ?_
  refine kr_i (va_runV (As := []) (rest := []) ⟨hx, hb, hml, hown, hts⟩ (mX_imbalanceNow l D cI cD cL tR tC s.heap.size ad n fi fo fw fe d hs) (cwV 0 hts (lw_V q148 q150 qs2 q50 q151) rfl rfl rfl (by decide +kernel) ⟨Nat.le_of_ble_eq_true rfl, Nat.le_of_ble_eq_true rfl⟩) (pV_ (wc := [(ad 0, .inr (0, [.ref (ad 1), .ref (ad 2), .int (nI n), .ref (ad 3), .ref (ad 4), .ref (ad 5), .ref (ad 6), .int d, .long hs])), (ad 1, .inr (1, [])), (ad 2, .inr (2, [])), (ad 3, .inl (cI, 6, .inl fi)), (ad 4, .inl (cI, 6, .inl fo)), (ad 5, .inl (cI, 36, .inl fw)), (ad 6, .inl (cD, 36, .inr (.inr (.inr (.inl fe)))))]) (va_recv hK hP (ci := 0) (q0 := 0) rfl rfl) hK hP hD hS hA hE [0, 1, 2, 3, 4, 5, 6] rfl rfl rfl) rfl rfl hl.1 rfl (lv_room (Nat.le_of_ble_eq_true rfl)) dX1_arePossible_1 ⟨(Nat.le_of_ble_eq_true rfl), (Nat.le_of_ble_eq_true rfl)⟩) ?_
  refine w_if_ne hx hb (tgt := 19) dX1_arePossible_4 (by decide) (fun c_1 => ?_) (fun c_1 => ?_)
  · refine lv_iconst (v := 0) hx hb dX1_arePossible_19 (by decide) ?_
    exact er_z hx hb hr hlocks (by first | exact (congrArg bI (decide_eq_true ⟨by assumption, by assumption⟩)).symm | exact (congrArg bI (decide_eq_false (fun h => absurd h.1 (by assumption)))).symm | exact (congrArg bI (decide_eq_false (fun h => absurd h.2 (by assumption)))).symm) dX1_arePossible_20
  · refine lv_aload_n hx hb dX1_arePossible_7 rfl (lv_at hl 0 rfl) ?_
    refine kr_i (va_runV (As := []) (rest := []) ⟨hx, hb, hml, hown, hts⟩ (mX_crowdedNow l D cI cD cL tR tC s.heap.size ad n fi fo fw fe d hs (by first | assumption | omega)) (cwV 0 hts (lw_V q163 q165 qs4 q50 q166) rfl rfl rfl (by decide +kernel) ⟨Nat.le_of_ble_eq_true rfl, Nat.le_of_ble_eq_true rfl⟩) (pV_ (wc := [(ad 0, .inr (0, [.ref (ad 1), .ref (ad 2), .int (nI n), .ref (ad 3), .ref (ad 4), .ref (ad 5), .ref (ad 6), .int d, .long hs])), (ad 1, .inr (1, [])), (ad 2, .inr (2, [])), (ad 3, .inl (cI, 6, .inl fi)), (ad 4, .inl (cI, 6, .inl fo)), (ad 5, .inl (cI, 36, .inl fw)), (ad 6, .inl (cD, 36, .inr (.inr (.inr (.inl fe)))))]) (va_recv hK hP (ci := 0) (q0 := 0) rfl rfl) hK hP hD hS hA hE [0, 1, 2, 3, 4, 5, 6] rfl rfl rfl) rfl rfl hl.1 rfl (lv_room (Nat.le_of_ble_eq_true rfl)) dX1_arePossible_8 ⟨(Nat.le_of_ble_eq_true rfl), (Nat.le_of_ble_eq_true rfl)⟩) ?_
    refine lv_iconst (v := (-1)) hx hb dX1_arePossible_11 (by decide) ?_
    refine w_icmp_ne hx hb (tgt := 19) dX1_arePossible_12 (by decide) (fun c_2 => ?_) (fun c_2 => ?_)
    · refine lv_iconst (v := 0) hx hb dX1_arePossible_19 (by decide) ?_
      exact er_z hx hb hr hlocks (by first | exact (congrArg bI (decide_eq_true ⟨by assumption, by assumption⟩)).symm | exact (congrArg bI (decide_eq_false (fun h => absurd h.1 (by assumption)))).symm | exact (congrArg bI (decide_eq_false (fun h => absurd h.2 (by assumption)))).symm) dX1_arePossible_20
    · refine lv_iconst (v := 1) hx hb dX1_arePossible_15 (by decide) ?_
      refine lv_goto (tgt := 20) hx hb dX1_arePossible_16 (by decide) ?_
      exact er_z hx hb hr hlocks (by first | exact (congrArg bI (decide_eq_true ⟨by assumption, by assumption⟩)).symm | exact (congrArg bI (decide_eq_false (fun h => absurd h.1 (by assumption)))).symm | exact (congrArg bI (decide_eq_false (fun h => absurd h.2 (by assumption)))).symm) dX1_arePossible_20

set_option maxHeartbeats 4000000 in
set_option maxRecDepth 100000 in
theorem mX_isPossible (l : Launch) (D : va_G) (cI cD cL : ClassId) (tR tC sz : Nat) (ad : Nat → Nat) (n : Nat) (fi : Nat → Int32) (fo : Nat → Int32) (fw : Nat → Int32) (fe : Nat → UInt64) (d : Int32) (hs : Int64) (hn : n ≤ 6) : Met l yX1_isPossible (ws_ yX1_isPossible cX1_isPossible 1 (some .boolean)) ({ frames := 4, cells := 0, slots := 0, locals := 87 } : Room) (pX [.ref (ad 0)] D [(ad 0, .inr (0, [.ref (ad 1), .ref (ad 2), .int (nI n), .ref (ad 3), .ref (ad 4), .ref (ad 5), .ref (ad 6), .int d, .long hs])), (ad 1, .inr (1, [])), (ad 2, .inr (2, [])), (ad 3, .inl (cI, 6, .inl fi)), (ad 4, .inl (cI, 6, .inl fo)), (ad 5, .inl (cI, 36, .inl fw)), (ad 6, .inl (cD, 36, .inr (.inr (.inr (.inl fe)))))] cI cD cL tR tC sz) (rI (bI (possX fi fo fw n))) 0 0 (fun _ => False) := by
  refine mR_ (by decide +kernel) (Nat.le_of_ble_eq_true rfl) ?_
  intro p e s m below meth c A hx hb hr hml hown hts hK hA hE hlocks hin hsz hP hD hS ls hl
  have hown : s.vm.findClass RX1 = some m.cls := hown
  have hl : lv_has ls 1 [(0, .ref (ad 0))] := hl
  refine lv_aload_n hx hb dX1_isPossible_0 rfl (lv_at hl 0 rfl) ?_
  refine kr_i (va_runV (As := []) (rest := []) ⟨hx, hb, hml, hown, hts⟩ (mX_arePossible l D cI cD cL tR tC s.heap.size ad n fi fo fw fe d hs (by first | assumption | omega)) (cwV 0 hts (lw_V q159 q161 qs3 q50 q162) rfl rfl rfl (by decide +kernel) ⟨Nat.le_of_ble_eq_true rfl, Nat.le_of_ble_eq_true rfl⟩) (pV_ (wc := [(ad 0, .inr (0, [.ref (ad 1), .ref (ad 2), .int (nI n), .ref (ad 3), .ref (ad 4), .ref (ad 5), .ref (ad 6), .int d, .long hs])), (ad 1, .inr (1, [])), (ad 2, .inr (2, [])), (ad 3, .inl (cI, 6, .inl fi)), (ad 4, .inl (cI, 6, .inl fo)), (ad 5, .inl (cI, 36, .inl fw)), (ad 6, .inl (cD, 36, .inr (.inr (.inr (.inl fe)))))]) (va_recv hK hP (ci := 0) (q0 := 0) rfl rfl) hK hP hD hS hA hE [0, 1, 2, 3, 4, 5, 6] rfl rfl rfl) rfl rfl hl.1 rfl (lv_room (Nat.le_of_ble_eq_true rfl)) dX1_isPossible_1 ⟨(Nat.le_of_ble_eq_true rfl), (Nat.le_of_ble_eq_true rfl)⟩) ?_
  exact er_z hx hb hr hlocks rfl dX1_isPossible_4

set_option maxHeartbeats 4000000 in
set_option maxRecDepth 100000 in
theorem mX_crowdedSet (l : Launch) (D : va_G) (cI cD cL : ClassId) (tR tC sz : Nat) (ad : Nat → Nat) (n : Nat) (fi : Nat → Int32) (fo : Nat → Int32) (fw : Nat → Int32) (fe : Nat → UInt64) (d : Int32) (hs : Int64) (hn : n ≤ 6) : Met l yX1_crowdedSet (ws_ yX1_crowdedSet cX1_crowdedSet 1 (some .int)) ({ frames := 3, cells := 0, slots := 0, locals := 67 } : Room) (pX [.ref (ad 0)] D [(ad 0, .inr (0, [.ref (ad 1), .ref (ad 2), .int (nI n), .ref (ad 3), .ref (ad 4), .ref (ad 5), .ref (ad 6), .int d, .long hs])), (ad 1, .inr (1, [])), (ad 2, .inr (2, [])), (ad 3, .inl (cI, 6, .inl fi)), (ad 4, .inl (cI, 6, .inl fo)), (ad 5, .inl (cI, 36, .inl fw)), (ad 6, .inl (cD, 36, .inr (.inr (.inr (.inl fe)))))] cI cD cL tR tC sz) (rI (crowdX fi fo fw n)) 0 0 (fun _ => False) := by
  refine mR_ (by decide +kernel) (Nat.le_of_ble_eq_true rfl) ?_
  intro p e s m below meth c A hx hb hr hml hown hts hK hA hE hlocks hin hsz hP hD hS ls hl
  have hown : s.vm.findClass RX1 = some m.cls := hown
  have hl : lv_has ls 1 [(0, .ref (ad 0))] := hl
  refine lv_aload_n hx hb dX1_crowdedSet_0 rfl (lv_at hl 0 rfl) ?_
  refine kr_i (va_runV (As := []) (rest := []) ⟨hx, hb, hml, hown, hts⟩ (mX_crowdedNow l D cI cD cL tR tC s.heap.size ad n fi fo fw fe d hs (by first | assumption | omega)) (cwV 0 hts (lw_V q163 q165 qs4 q50 q166) rfl rfl rfl (by decide +kernel) ⟨Nat.le_of_ble_eq_true rfl, Nat.le_of_ble_eq_true rfl⟩) (pV_ (wc := [(ad 0, .inr (0, [.ref (ad 1), .ref (ad 2), .int (nI n), .ref (ad 3), .ref (ad 4), .ref (ad 5), .ref (ad 6), .int d, .long hs])), (ad 1, .inr (1, [])), (ad 2, .inr (2, [])), (ad 3, .inl (cI, 6, .inl fi)), (ad 4, .inl (cI, 6, .inl fo)), (ad 5, .inl (cI, 36, .inl fw)), (ad 6, .inl (cD, 36, .inr (.inr (.inr (.inl fe)))))]) (va_recv hK hP (ci := 0) (q0 := 0) rfl rfl) hK hP hD hS hA hE [0, 1, 2, 3, 4, 5, 6] rfl rfl rfl) rfl rfl hl.1 rfl (lv_room (Nat.le_of_ble_eq_true rfl)) dX1_crowdedSet_1 ⟨(Nat.le_of_ble_eq_true rfl), (Nat.le_of_ble_eq_true rfl)⟩) ?_
  exact er_i hx hb hr hlocks rfl dX1_crowdedSet_4

set_option maxHeartbeats 4000000 in
set_option maxRecDepth 100000 in
theorem mX_excess (l : Launch) (D : va_G) (cI cD cL : ClassId) (tR tC sz : Nat) (ad : Nat → Nat) (n : Nat) (fi : Nat → Int32) (fo : Nat → Int32) (fw : Nat → Int32) (fe : Nat → UInt64) (d : Int32) (hs : Int64) (S : Int32) (hn : n ≤ 6) (hok : decide (0 ≤ S ∧ S ≤ (1 <<< (nI n &&& 31)) - 1) = true) : Met l yX1_excess (ws_ yX1_excess cX1_excess 2 (some .int)) ({ frames := 2, cells := 0, slots := 0, locals := 46 } : Room) (pX [.ref (ad 0), .int S] D [(ad 0, .inr (0, [.ref (ad 1), .ref (ad 2), .int (nI n), .ref (ad 3), .ref (ad 4), .ref (ad 5), .ref (ad 6), .int d, .long hs])), (ad 1, .inr (1, [])), (ad 2, .inr (2, [])), (ad 3, .inl (cI, 6, .inl fi)), (ad 4, .inl (cI, 6, .inl fo)), (ad 5, .inl (cI, 36, .inl fw)), (ad 6, .inl (cD, 36, .inr (.inr (.inr (.inl fe)))))] cI cD cL tR tC sz) (rI (excX fi fo fw n S)) 0 0 (fun _ => False) := by
  refine mR_ (by decide +kernel) (Nat.le_of_ble_eq_true rfl) ?_
  intro p e s m below meth c A hx hb hr hml hown hts hK hA hE hlocks hin hsz hP hD hS ls hl
  have hown : s.vm.findClass RX1 = some m.cls := hown
  have hl : lv_has ls 2 [(0, .ref (ad 0)), (1, .int S)] := hl
  refine lv_iload_n hx hb dX1_excess_0 rfl (lv_at hl 1 rfl) ?_
  refine lv_iconst (v := 0) hx hb dX1_excess_1 (by decide) ?_
  refine lv_iconst (v := 1) hx hb dX1_excess_2 (by decide) ?_
  refine lv_aload_n hx hb dX1_excess_3 rfl (lv_at hl 0 rfl) ?_
  refine va_get (D := D) (ci := 0) (v := .int (nI n)) (C := RX1) (T := TX1) (N := 9) hx hb hts in_X1 hown hK hP 0 rfl rfl 2 (by decide) (hts _ q103) (fun _ h9 => h9) rfl dX1_excess_4 ?_
  refine lv_ishl hx hb dX1_excess_7 ?_
  refine lv_iconst (v := 1) hx hb dX1_excess_8 (by decide) ?_
  refine lv_isub hx hb dX1_excess_9 ?_
  refine kr_i (va_runS (As := [.int S, .int 0, .int ((1 <<< (nI n &&& 31)) - 1)]) (rest := []) ⟨hx, hb, hml, hown, hts⟩ (mX_inRange l D cI cD cL tR tC s.heap.size S 0 ((1 <<< (nI n &&& 31)) - 1)) (va_cwS 3 hts (lw_S q330 q331 q50 q332) rfl rfl rfl (by decide +kernel) ⟨Nat.le_of_ble_eq_true rfl, Nat.le_of_ble_eq_true rfl⟩) (pS_ (wc := []) hK hP hD hS hA hE [] rfl rfl rfl) rfl rfl hl.1 rfl (lv_room (Nat.le_of_ble_eq_true rfl)) dX1_excess_10 ⟨(Nat.le_of_ble_eq_true rfl), (Nat.le_of_ble_eq_true rfl)⟩) ?_
  refine kr_v (va_runS (As := [.int (bI (decide (0 ≤ S ∧ S ≤ ((1 <<< (nI n &&& 31)) - 1))))]) (rest := []) ⟨hx, hb, hml, hown, hts⟩ (mX_require l D cI cD cL tR tC s.heap.size (decide (0 ≤ S ∧ S ≤ ((1 <<< (nI n &&& 31)) - 1))) hok) (va_cwS 1 hts (lw_S q333 q334 q50 q335) rfl rfl rfl (by decide +kernel) ⟨Nat.le_of_ble_eq_true rfl, Nat.le_of_ble_eq_true rfl⟩) (pS_ (wc := []) hK hP hD hS hA hE [] rfl rfl rfl) rfl rfl hl.1 rfl (lv_room (Nat.le_of_ble_eq_true rfl)) dX1_excess_13 ⟨(Nat.le_of_ble_eq_true rfl), (Nat.le_of_ble_eq_true rfl)⟩) ?_
  refine lv_aload_n hx hb dX1_excess_16 rfl (lv_at hl 0 rfl) ?_
  refine lv_iload_n hx hb dX1_excess_17 rfl (lv_at hl 1 rfl) ?_
  refine kr_i (va_runV (As := [.int S]) (rest := []) ⟨hx, hb, hml, hown, hts⟩ (mX_excessOf l D cI cD cL tR tC s.heap.size ad n fi fo fw fe d hs S (by first | assumption | omega)) (cwV 1 hts (lw_V q167 q169 qs5 q50 q170) rfl rfl rfl (by decide +kernel) ⟨Nat.le_of_ble_eq_true rfl, Nat.le_of_ble_eq_true rfl⟩) (pV_ (wc := [(ad 0, .inr (0, [.ref (ad 1), .ref (ad 2), .int (nI n), .ref (ad 3), .ref (ad 4), .ref (ad 5), .ref (ad 6), .int d, .long hs])), (ad 1, .inr (1, [])), (ad 2, .inr (2, [])), (ad 3, .inl (cI, 6, .inl fi)), (ad 4, .inl (cI, 6, .inl fo)), (ad 5, .inl (cI, 36, .inl fw)), (ad 6, .inl (cD, 36, .inr (.inr (.inr (.inl fe)))))]) (va_recv hK hP (ci := 0) (q0 := 0) rfl rfl) hK hP hD hS hA hE [0, 1, 2, 3, 4, 5, 6] rfl rfl rfl) rfl rfl hl.1 rfl (lv_room (Nat.le_of_ble_eq_true rfl)) dX1_excess_18 ⟨(Nat.le_of_ble_eq_true rfl), (Nat.le_of_ble_eq_true rfl)⟩) ?_
  exact er_i hx hb hr hlocks rfl dX1_excess_21

set_option maxHeartbeats 4000000 in
set_option maxRecDepth 100000 in
theorem tX_excess (l : Launch) (D : va_G) (cI cD cL : ClassId) (tR tC sz : Nat) (ad : Nat → Nat) (n : Nat) (fi : Nat → Int32) (fo : Nat → Int32) (fw : Nat → Int32) (fe : Nat → UInt64) (d : Int32) (hs : Int64) (S : Int32) (hn : n ≤ 6) (hok : ¬ decide (0 ≤ S ∧ S ≤ (1 <<< (nI n &&& 31)) - 1) = true) (hfl : l.stackTraces = false) : xThr l yX1_excess (ws_ yX1_excess cX1_excess 2 (some .int)) ({ frames := 7, cells := 1, slots := 6, locals := 101 } : Room) (pX [.ref (ad 0), .int S] D [(ad 0, .inr (0, [.ref (ad 1), .ref (ad 2), .int (nI n), .ref (ad 3), .ref (ad 4), .ref (ad 5), .ref (ad 6), .int d, .long hs])), (ad 1, .inr (1, [])), (ad 2, .inr (2, [])), (ad 3, .inl (cI, 6, .inl fi)), (ad 4, .inl (cI, 6, .inl fo)), (ad 5, .inl (cI, 36, .inl fw)), (ad 6, .inl (cD, 36, .inr (.inr (.inr (.inl fe)))))] cI cD cL tR tC sz) "java/lang/IllegalArgumentException" := by
  refine mT_ (by decide +kernel) (Nat.le_of_ble_eq_true rfl) ?_
  intro p e s m below meth c A hx hb hr hml hown hts hK hA hE hlocks hin hsz hP hD hS hout ls hl
  have hown : s.vm.findClass RX1 = some m.cls := hown
  have hl : lv_has ls 2 [(0, .ref (ad 0)), (1, .int S)] := hl
  refine lv_iload_n hx hb dX1_excess_0 rfl (lv_at hl 1 rfl) ?_
  refine lv_iconst (v := 0) hx hb dX1_excess_1 (by decide) ?_
  refine lv_iconst (v := 1) hx hb dX1_excess_2 (by decide) ?_
  refine lv_aload_n hx hb dX1_excess_3 rfl (lv_at hl 0 rfl) ?_
  refine va_get (D := D) (ci := 0) (v := .int (nI n)) (C := RX1) (T := TX1) (N := 9) hx hb hts in_X1 hown hK hP 0 rfl rfl 2 (by decide) (hts _ q103) (fun _ h9 => h9) rfl dX1_excess_4 ?_
  refine lv_ishl hx hb dX1_excess_7 ?_
  refine lv_iconst (v := 1) hx hb dX1_excess_8 (by decide) ?_
  refine lv_isub hx hb dX1_excess_9 ?_
  refine kr_i (va_runS (As := [.int S, .int 0, .int ((1 <<< (nI n &&& 31)) - 1)]) (rest := []) ⟨hx, hb, hml, hown, hts⟩ (mX_inRange l D cI cD cL tR tC s.heap.size S 0 ((1 <<< (nI n &&& 31)) - 1)) (va_cwS 3 hts (lw_S q330 q331 q50 q332) rfl rfl rfl (by decide +kernel) ⟨Nat.le_of_ble_eq_true rfl, Nat.le_of_ble_eq_true rfl⟩) (pS_ (wc := []) hK hP hD hS hA hE [] rfl rfl rfl) rfl rfl hl.1 rfl (lv_room (Nat.le_of_ble_eq_true rfl)) dX1_excess_10 ⟨(Nat.le_of_ble_eq_true rfl), (Nat.le_of_ble_eq_true rfl)⟩) ?_
  exact kx_out (vx_runS (As := [.int (bI (decide (0 ≤ S ∧ S ≤ ((1 <<< (nI n &&& 31)) - 1))))]) (rest := []) ⟨hx, hb, hml, hown, hts⟩ (tX_require l D cI cD cL tR tC s.heap.size (decide (0 ≤ S ∧ S ≤ ((1 <<< (nI n &&& 31)) - 1))) hok (by first | assumption | omega)) (va_cwS 1 hts (lw_S q333 q334 q50 q335) rfl rfl rfl (by decide +kernel) ⟨Nat.le_of_ble_eq_true rfl, Nat.le_of_ble_eq_true rfl⟩) (pS_ (wc := []) hK hP hD hS hA hE [] rfl rfl rfl) rfl rfl hl.1 rfl (lv_room (Nat.le_of_ble_eq_true rfl)) dX1_excess_13 ⟨(Nat.le_of_ble_eq_true rfl), (Nat.le_of_ble_eq_true rfl)⟩) hS hout hlocks rfl rfl

set_option maxHeartbeats 4000000 in
set_option maxRecDepth 100000 in
theorem mX_reset (l : Launch) (D : va_G) (cI cD cL : ClassId) (tR tC sz : Nat) (ad : Nat → Nat) (n : Nat) (fi : Nat → Int32) (fo : Nat → Int32) (fw : Nat → Int32) (fe : Nat → UInt64) (d : Int32) (hs : Int64) : Met l yX1_reset (ws_ yX1_reset cX1_reset 2 (some .int)) ({ frames := 1, cells := 0, slots := 0, locals := 21 } : Room) (pX [.ref (ad 0)] D [(ad 0, .inr (0, [.ref (ad 1), .ref (ad 2), .int (nI n), .ref (ad 3), .ref (ad 4), .ref (ad 5), .ref (ad 6), .int d, .long hs])), (ad 1, .inr (1, [])), (ad 2, .inr (2, [])), (ad 3, .inl (cI, 6, .inl fi)), (ad 4, .inl (cI, 6, .inl fo)), (ad 5, .inl (cI, 36, .inl fw)), (ad 6, .inl (cD, 36, .inr (.inr (.inr (.inl fe)))))] cI cD cL tR tC sz) (qI D d [(ad 0, .inr (0, [.ref (ad 1), .ref (ad 2), .int (nI n), .ref (ad 3), .ref (ad 4), .ref (ad 5), .ref (ad 6), .int 0, .long hs])), (ad 1, .inr (1, [])), (ad 2, .inr (2, [])), (ad 3, .inl (cI, 6, .inl fi)), (ad 4, .inl (cI, 6, .inl fo)), (ad 5, .inl (cI, 36, .inl fw)), (ad 6, .inl (cD, 36, .inr (.inr (.inr (.inl (est0 fw))))))] (va_A [(ad 0, .inr (0, [.ref (ad 1), .ref (ad 2), .int (nI n), .ref (ad 3), .ref (ad 4), .ref (ad 5), .ref (ad 6), .int d, .long hs])), (ad 1, .inr (1, [])), (ad 2, .inr (2, [])), (ad 3, .inl (cI, 6, .inl fi)), (ad 4, .inl (cI, 6, .inl fo)), (ad 5, .inl (cI, 36, .inl fw)), (ad 6, .inl (cD, 36, .inr (.inr (.inr (.inl fe)))))] sz)) 0 0 (va_A [(ad 0, .inr (0, [.ref (ad 1), .ref (ad 2), .int (nI n), .ref (ad 3), .ref (ad 4), .ref (ad 5), .ref (ad 6), .int d, .long hs])), (ad 1, .inr (1, [])), (ad 2, .inr (2, [])), (ad 3, .inl (cI, 6, .inl fi)), (ad 4, .inl (cI, 6, .inl fo)), (ad 5, .inl (cI, 36, .inl fw)), (ad 6, .inl (cD, 36, .inr (.inr (.inr (.inl fe)))))] sz) := by
  refine mS_ (Qf := qI D d [(ad 0, .inr (0, [.ref (ad 1), .ref (ad 2), .int (nI n), .ref (ad 3), .ref (ad 4), .ref (ad 5), .ref (ad 6), .int 0, .long hs])), (ad 1, .inr (1, [])), (ad 2, .inr (2, [])), (ad 3, .inl (cI, 6, .inl fi)), (ad 4, .inl (cI, 6, .inl fo)), (ad 5, .inl (cI, 36, .inl fw)), (ad 6, .inl (cD, 36, .inr (.inr (.inr (.inl (est0 fw))))))]) (by decide +kernel) (Nat.le_of_ble_eq_true rfl) ?_
  intro p e s m below meth c A hx hb hr hml hown hts hK hA hE hlocks hin hsz hP hD hS ls hl
  have hown : s.vm.findClass RX1 = some m.cls := hown
  have hl : lv_has ls 2 [(0, .ref (ad 0))] := hl
  refine lv_aload_n hx hb dX1_reset_0 rfl (lv_at hl 0 rfl) ?_
  refine va_get (D := D) (ci := 0) (v := .int d) (C := RX1) (T := TX1) (N := 9) hx hb hts in_X1 hown hK hP 0 rfl rfl 7 (by decide) (hts _ q117) (fun _ h9 => h9) rfl dX1_reset_1 ?_
  refine lv_istore_n (lv' := [(1, .int d), (0, .ref (ad 0))]) hx hb dX1_reset_4 rfl hl (Nat.le_of_ble_eq_true rfl) rfl (fun ls hl => ?_)
  refine lv_aload_n hx hb dX1_reset_5 rfl (lv_at hl 1 rfl) ?_
  refine ks_v (wc := [(ad 0, .inr (0, [.ref (ad 1), .ref (ad 2), .int (nI n), .ref (ad 3), .ref (ad 4), .ref (ad 5), .ref (ad 6), .int d, .long hs])), (ad 1, .inr (1, [])), (ad 2, .inr (2, [])), (ad 3, .inl (cI, 6, .inl fi)), (ad 4, .inl (cI, 6, .inl fo)), (ad 5, .inl (cI, 36, .inl fw)), (ad 6, .inl (cD, 36, .inr (.inr (.inr (.inl fe)))))]) (wr := []) (w1 := [(ad 0, .inr (0, [.ref (ad 1), .ref (ad 2), .int (nI n), .ref (ad 3), .ref (ad 4), .ref (ad 5), .ref (ad 6), .int 0, .long hs])), (ad 1, .inr (1, [])), (ad 2, .inr (2, [])), (ad 3, .inl (cI, 6, .inl fi)), (ad 4, .inl (cI, 6, .inl fo)), (ad 5, .inl (cI, 36, .inl fw)), (ad 6, .inl (cD, 36, .inr (.inr (.inr (.inl (est0 fw))))))]) (va_runV (As := []) (rest := []) ⟨hx, hb, hml, hown, hts⟩ (mX_resetNow l D cI cD cL tR tC s.heap.size ad n fi fo fw fe d hs) (cwV 0 hts (lw_V q94 q96 qs1 q50 q97) rfl rfl rfl (by decide +kernel) ⟨Nat.le_of_ble_eq_true rfl, Nat.le_of_ble_eq_true rfl⟩) (pV_ (wc := [(ad 0, .inr (0, [.ref (ad 1), .ref (ad 2), .int (nI n), .ref (ad 3), .ref (ad 4), .ref (ad 5), .ref (ad 6), .int d, .long hs])), (ad 1, .inr (1, [])), (ad 2, .inr (2, [])), (ad 3, .inl (cI, 6, .inl fi)), (ad 4, .inl (cI, 6, .inl fo)), (ad 5, .inl (cI, 36, .inl fw)), (ad 6, .inl (cD, 36, .inr (.inr (.inr (.inl fe)))))]) (va_recv hK hP (ci := 0) (q0 := 0) rfl rfl) hK hP hD hS hA hE [0, 1, 2, 3, 4, 5, 6] rfl rfl rfl) rfl rfl hl.1 rfl (lv_room (Nat.le_of_ble_eq_true rfl)) dX1_reset_6 ⟨(Nat.le_of_ble_eq_true rfl), (Nat.le_of_ble_eq_true rfl)⟩) hP hD hS hA [0, 1, 2, 3, 4, 5, 6] [] rfl rfl rfl (by decide) (fun H locs hP hD hS => ?_)
  have hP : va_P D vwCl [(ad 0, .inr (0, [.ref (ad 1), .ref (ad 2), .int (nI n), .ref (ad 3), .ref (ad 4), .ref (ad 5), .ref (ad 6), .int 0, .long hs])), (ad 1, .inr (1, [])), (ad 2, .inr (2, [])), (ad 3, .inl (cI, 6, .inl fi)), (ad 4, .inl (cI, 6, .inl fo)), (ad 5, .inl (cI, 36, .inl fw)), (ad 6, .inl (cD, 36, .inr (.inr (.inr (.inl (est0 fw))))))] H := hP
  have hD : va_D A [(ad 0, .inr (0, [.ref (ad 1), .ref (ad 2), .int (nI n), .ref (ad 3), .ref (ad 4), .ref (ad 5), .ref (ad 6), .int 0, .long hs])), (ad 1, .inr (1, [])), (ad 2, .inr (2, [])), (ad 3, .inl (cI, 6, .inl fi)), (ad 4, .inl (cI, 6, .inl fo)), (ad 5, .inl (cI, 36, .inl fw)), (ad 6, .inl (cD, 36, .inr (.inr (.inr (.inl (est0 fw))))))] := hD
  refine lv_iload_n hx hb dX1_reset_9 rfl (lv_at hl 0 rfl) ?_
  exact es_i hx hb hr hlocks hP hD hS rfl dX1_reset_10

set_option maxHeartbeats 4000000 in
set_option maxRecDepth 100000 in
theorem mX_rounds (l : Launch) (D : va_G) (cI cD cL : ClassId) (tR tC sz : Nat) (ad : Nat → Nat) (n : Nat) (fi : Nat → Int32) (fo : Nat → Int32) (fw : Nat → Int32) (fe : Nat → UInt64) (d : Int32) (hs : Int64) : Met l yX1_rounds (ws_ yX1_rounds cX1_rounds 1 (some .int)) ({ frames := 0, cells := 0, slots := 0, locals := 0 } : Room) (pX [.ref (ad 0)] D [(ad 0, .inr (0, [.ref (ad 1), .ref (ad 2), .int (nI n), .ref (ad 3), .ref (ad 4), .ref (ad 5), .ref (ad 6), .int d, .long hs])), (ad 1, .inr (1, [])), (ad 2, .inr (2, [])), (ad 3, .inl (cI, 6, .inl fi)), (ad 4, .inl (cI, 6, .inl fo)), (ad 5, .inl (cI, 36, .inl fw)), (ad 6, .inl (cD, 36, .inr (.inr (.inr (.inl fe)))))] cI cD cL tR tC sz) (rI d) 0 0 (fun _ => False) := by
  refine mR_ (by decide +kernel) (Nat.le_of_ble_eq_true rfl) ?_
  intro p e s m below meth c A hx hb hr hml hown hts hK hA hE hlocks hin hsz hP hD hS ls hl
  have hown : s.vm.findClass RX1 = some m.cls := hown
  have hl : lv_has ls 1 [(0, .ref (ad 0))] := hl
  refine lv_aload_n hx hb dX1_rounds_0 rfl (lv_at hl 0 rfl) ?_
  refine va_get (D := D) (ci := 0) (v := .int d) (C := RX1) (T := TX1) (N := 9) hx hb hts in_X1 hown hK hP 0 rfl rfl 7 (by decide) (hts _ q117) (fun _ h9 => h9) rfl dX1_rounds_1 ?_
  exact er_i hx hb hr hlocks rfl dX1_rounds_4

set_option maxHeartbeats 4000000 in
set_option maxRecDepth 100000 in
theorem mX_side_sumR (l : Launch) (D : va_G) (cI cD cL : ClassId) (tR tC sz : Nat) (a0 : Nat) (x : Nat) (n : Nat) (fe : Nat → UInt64) (hn : n ≤ 6) (hx6 : x < 6) (hok : okSum (rowG fe x) n) : Met l yX5_sum (ws_ yX5_sum cX5_sum 7 (some .double)) ({ frames := 1, cells := 0, slots := 0, locals := 22 } : Room) (pX [.ref tR, .ref a0, .int (nI x), .int (nI n)] D [(a0, .inl (cD, 36, .inr (.inr (.inr (.inl fe)))))] cI cD cL tR tC sz) (rD (dsum (rowG fe x) n)) 0 0 (fun _ => False) := by
  refine mR_ (by decide +kernel) (Nat.le_of_ble_eq_true rfl) ?_
  intro p e s m below meth c A hx hb hr hml hown hts hK hA hE hlocks hin hsz hP hD hS ls hl
  have hown : s.vm.findClass RX5 = some m.cls := hown
  have hl : lv_has ls 7 [(0, .ref tR), (1, .ref a0), (2, .int (nI x)), (3, .int (nI n))] := hl
  refine lv_dconst0 hx hb dX5_sum_0 ?_
  refine lv_dstore (lv' := [(4, .double FP.dconst0), (0, .ref tR), (1, .ref a0), (2, .int (nI x)), (3, .int (nI n))]) hx hb dX5_sum_1 hl (Nat.le_of_ble_eq_true rfl) rfl (fun ls hl => ?_)
  refine lv_iconst (v := 0) hx hb dX5_sum_3 (by decide) ?_
  refine lv_istore (lv' := [(6, .int 0), (4, .double FP.dconst0), (0, .ref tR), (1, .ref a0), (2, .int (nI x)), (3, .int (nI n))]) hx hb dX5_sum_4 hl (Nat.le_of_ble_eq_true rfl) rfl (fun ls hl => ?_)
  have L_1 : ∀ (N : Nat) (i : Nat), n - i < N → (i ≤ n) → ∀ ls : Array Slot, lv_has ls 7 [(6, .int (nI i)), (4, .double (dsum (rowG fe x) i)), (0, .ref tR), (1, .ref a0), (2, .int (nI x)), (3, .int (nI n))] → W p l e ({ frames := 1, cells := 0, slots := 0, locals := 22 } : Room) s m ([.ref tR, .ref a0, .int (nI x), .int (nI n)] : List Value).toArray below meth c s.heap [] 0 0 (MQ below (rD (dsum (rowG fe x) n)) ([.ref tR, .ref a0, .int (nI x), .int (nI n)] : List Value).toArray s 0 0 (fun _ => False)) (F0 m 6 ls []) := by
    intro N
    induction N with
    | zero => intro i hN; exact absurd hN (Nat.not_lt_zero _)
    | succ N ih6 =>
      intro i hN6 hi ls hl
      refine lv_iload hx hb dX5_sum_6 (lv_at hl 0 rfl) ?_
      refine lv_iload_n hx hb dX5_sum_8 rfl (lv_at hl 5 rfl) ?_
      refine w_icmp_geN hx hb i n (by omega) (by omega) (tgt := 32) dX5_sum_9 (by decide) (fun c_2 => ?_) (fun c_2 => ?_)
      · refine lv_dload hx hb dX5_sum_32 (lv_at hl 1 rfl) ?_
        exact er_d hx hb hr hlocks (by rw [show i = n by omega]) dX5_sum_34
      · refine lv_dload hx hb dX5_sum_12 (lv_at hl 1 rfl) ?_
        refine lv_aload_n hx hb dX5_sum_14 rfl (lv_at hl 3 rfl) ?_
        refine lv_aload_n hx hb dX5_sum_15 rfl (lv_at hl 2 rfl) ?_
        refine lv_iload_n hx hb dX5_sum_16 rfl (lv_at hl 4 rfl) ?_
        refine lv_iload hx hb dX5_sum_17 (lv_at hl 0 rfl) ?_
        refine w_place (C := "TurnEstimator$Side$1") (owner := "TurnEstimator$Side") (x := ⟨"TurnEstimator$Side", "place", "(II)I"⟩) (y := yX9_place) ⟨hx, hb, hml, hown, hts⟩ (w_plR x i hx hts ⟨Nat.le_of_ble_eq_true rfl, Nat.le_of_ble_eq_true rfl⟩) q202 q204 (xt_q203 hE.T) q205 q206 q207 (by decide +kernel) (va_Orecv hE.2.2.1 hS) hl.1 (lv_room (Nat.le_of_ble_eq_true rfl)) dX5_sum_19 ?_
        refine w_dald hx hb hK hP 0 1 rfl rfl (6 * x + i) (by omega) (by decide) dX5_sum_22 ?_
        refine lv_dadd hx hb dX5_sum_23 (hok i (by omega)) ?_
        refine lv_dstore (lv' := [(4, .double (FP.dadd (dsum (rowG fe x) i) (fe (6 * x + i)))), (6, .int (nI i)), (0, .ref tR), (1, .ref a0), (2, .int (nI x)), (3, .int (nI n))]) hx hb dX5_sum_24 hl (Nat.le_of_ble_eq_true rfl) rfl (fun ls hl => ?_)
        refine w_iinc hx hb i (lv' := [(6, .int (nI (i + 1))), (4, .double (FP.dadd (dsum (rowG fe x) i) (fe (6 * x + i)))), (0, .ref tR), (1, .ref a0), (2, .int (nI x)), (3, .int (nI n))]) dX5_sum_26 hl (k := 1) rfl (Nat.le_of_ble_eq_true rfl) rfl (fun ls hl => ?_)
        refine lv_goto (tgt := 6) hx hb dX5_sum_29 (by decide) ?_
        exact ih6 (i + 1) (by omega) (by omega) ls (lv_sub hl [0, 1, 2, 3, 4, 5] rfl)
  exact L_1 ((n - 0) + 1) 0 (Nat.lt_succ_self _) (by omega) ls (lv_sub hl [0, 1, 2, 3, 4, 5] rfl)

set_option maxHeartbeats 4000000 in
set_option maxRecDepth 100000 in
theorem mX_side_sumC (l : Launch) (D : va_G) (cI cD cL : ClassId) (tR tC sz : Nat) (a0 : Nat) (x : Nat) (n : Nat) (fe : Nat → UInt64) (hn : n ≤ 6) (hx6 : x < 6) (hok : okSum (colG fe x) n) : Met l yX5_sum (ws_ yX5_sum cX5_sum 7 (some .double)) ({ frames := 1, cells := 0, slots := 0, locals := 22 } : Room) (pX [.ref tC, .ref a0, .int (nI x), .int (nI n)] D [(a0, .inl (cD, 36, .inr (.inr (.inr (.inl fe)))))] cI cD cL tR tC sz) (rD (dsum (colG fe x) n)) 0 0 (fun _ => False) := by
  refine mR_ (by decide +kernel) (Nat.le_of_ble_eq_true rfl) ?_
  intro p e s m below meth c A hx hb hr hml hown hts hK hA hE hlocks hin hsz hP hD hS ls hl
  have hown : s.vm.findClass RX5 = some m.cls := hown
  have hl : lv_has ls 7 [(0, .ref tC), (1, .ref a0), (2, .int (nI x)), (3, .int (nI n))] := hl
  refine lv_dconst0 hx hb dX5_sum_0 ?_
  refine lv_dstore (lv' := [(4, .double FP.dconst0), (0, .ref tC), (1, .ref a0), (2, .int (nI x)), (3, .int (nI n))]) hx hb dX5_sum_1 hl (Nat.le_of_ble_eq_true rfl) rfl (fun ls hl => ?_)
  refine lv_iconst (v := 0) hx hb dX5_sum_3 (by decide) ?_
  refine lv_istore (lv' := [(6, .int 0), (4, .double FP.dconst0), (0, .ref tC), (1, .ref a0), (2, .int (nI x)), (3, .int (nI n))]) hx hb dX5_sum_4 hl (Nat.le_of_ble_eq_true rfl) rfl (fun ls hl => ?_)
  have L_1 : ∀ (N : Nat) (i : Nat), n - i < N → (i ≤ n) → ∀ ls : Array Slot, lv_has ls 7 [(6, .int (nI i)), (4, .double (dsum (colG fe x) i)), (0, .ref tC), (1, .ref a0), (2, .int (nI x)), (3, .int (nI n))] → W p l e ({ frames := 1, cells := 0, slots := 0, locals := 22 } : Room) s m ([.ref tC, .ref a0, .int (nI x), .int (nI n)] : List Value).toArray below meth c s.heap [] 0 0 (MQ below (rD (dsum (colG fe x) n)) ([.ref tC, .ref a0, .int (nI x), .int (nI n)] : List Value).toArray s 0 0 (fun _ => False)) (F0 m 6 ls []) := by
    intro N
    induction N with
    | zero => intro i hN; exact absurd hN (Nat.not_lt_zero _)
    | succ N ih6 =>
      intro i hN6 hi ls hl
      refine lv_iload hx hb dX5_sum_6 (lv_at hl 0 rfl) ?_
      refine lv_iload_n hx hb dX5_sum_8 rfl (lv_at hl 5 rfl) ?_
      refine w_icmp_geN hx hb i n (by omega) (by omega) (tgt := 32) dX5_sum_9 (by decide) (fun c_2 => ?_) (fun c_2 => ?_)
      · refine lv_dload hx hb dX5_sum_32 (lv_at hl 1 rfl) ?_
        exact er_d hx hb hr hlocks (by rw [show i = n by omega]) dX5_sum_34
      · refine lv_dload hx hb dX5_sum_12 (lv_at hl 1 rfl) ?_
        refine lv_aload_n hx hb dX5_sum_14 rfl (lv_at hl 3 rfl) ?_
        refine lv_aload_n hx hb dX5_sum_15 rfl (lv_at hl 2 rfl) ?_
        refine lv_iload_n hx hb dX5_sum_16 rfl (lv_at hl 4 rfl) ?_
        refine lv_iload hx hb dX5_sum_17 (lv_at hl 0 rfl) ?_
        refine w_place (C := "TurnEstimator$Side$2") (owner := "TurnEstimator$Side") (x := ⟨"TurnEstimator$Side", "place", "(II)I"⟩) (y := yX10_place) ⟨hx, hb, hml, hown, hts⟩ (w_plC x i hx hts ⟨Nat.le_of_ble_eq_true rfl, Nat.le_of_ble_eq_true rfl⟩) q202 q204 (xt_q203 hE.T) q208 q209 q210 (by decide +kernel) (va_Orecv hE.2.2.2.1 hS) hl.1 (lv_room (Nat.le_of_ble_eq_true rfl)) dX5_sum_19 ?_
        refine w_dald hx hb hK hP 0 1 rfl rfl (6 * i + x) (by omega) (by decide) dX5_sum_22 ?_
        refine lv_dadd hx hb dX5_sum_23 (hok i (by omega)) ?_
        refine lv_dstore (lv' := [(4, .double (FP.dadd (dsum (colG fe x) i) (fe (6 * i + x)))), (6, .int (nI i)), (0, .ref tC), (1, .ref a0), (2, .int (nI x)), (3, .int (nI n))]) hx hb dX5_sum_24 hl (Nat.le_of_ble_eq_true rfl) rfl (fun ls hl => ?_)
        refine w_iinc hx hb i (lv' := [(6, .int (nI (i + 1))), (4, .double (FP.dadd (dsum (colG fe x) i) (fe (6 * i + x)))), (0, .ref tC), (1, .ref a0), (2, .int (nI x)), (3, .int (nI n))]) dX5_sum_26 hl (k := 1) rfl (Nat.le_of_ble_eq_true rfl) rfl (fun ls hl => ?_)
        refine lv_goto (tgt := 6) hx hb dX5_sum_29 (by decide) ?_
        exact ih6 (i + 1) (by omega) (by omega) ls (lv_sub hl [0, 1, 2, 3, 4, 5] rfl)
  exact L_1 ((n - 0) + 1) 0 (Nat.lt_succ_self _) (by omega) ls (lv_sub hl [0, 1, 2, 3, 4, 5] rfl)

set_option maxHeartbeats 4000000 in
set_option maxRecDepth 100000 in
theorem mX_sideR (l : Launch) (D : va_G) (cI cD cL : ClassId) (tR tC sz : Nat) (ad : Nat → Nat) : Met l yX2_side (ws_ yX2_side cX2_side 1 (some (.object "TurnEstimator$Side"))) ({ frames := 0, cells := 0, slots := 0, locals := 0 } : Room) (pX [.ref (ad 1)] D [(ad 1, .inr (1, []))] cI cD cL tR tC sz) (rR tR) 0 0 (fun _ => False) := by
  refine mR_ (by decide +kernel) (Nat.le_of_ble_eq_true rfl) ?_
  intro p e s m below meth c A hx hb hr hml hown hts hK hA hE hlocks hin hsz hP hD hS ls hl
  have hown : s.vm.findClass RX2 = some m.cls := hown
  have hl : lv_has ls 1 [(0, .ref (ad 1))] := hl
  refine va_gets hx hb hE.1 hS hown (hts _ q558) (fun _ h9 => h9) dX2_side_0 ?_
  exact er_r hx hb hr (Or.inl ⟨_, rfl⟩) hlocks rfl dX2_side_3

set_option maxHeartbeats 4000000 in
set_option maxRecDepth 100000 in
theorem mX_sideC (l : Launch) (D : va_G) (cI cD cL : ClassId) (tR tC sz : Nat) (ad : Nat → Nat) : Met l yX3_side (ws_ yX3_side cX3_side 1 (some (.object "TurnEstimator$Side"))) ({ frames := 0, cells := 0, slots := 0, locals := 0 } : Room) (pX [.ref (ad 2)] D [(ad 2, .inr (2, []))] cI cD cL tR tC sz) (rR tC) 0 0 (fun _ => False) := by
  refine mR_ (by decide +kernel) (Nat.le_of_ble_eq_true rfl) ?_
  intro p e s m below meth c A hx hb hr hml hown hts hK hA hE hlocks hin hsz hP hD hS ls hl
  have hown : s.vm.findClass RX3 = some m.cls := hown
  have hl : lv_has ls 1 [(0, .ref (ad 2))] := hl
  refine va_gets hx hb hE.2.1 hS hown (hts _ q551) (fun _ h9 => h9) dX3_side_0 ?_
  exact er_r hx hb hr (Or.inl ⟨_, rfl⟩) hlocks rfl dX3_side_3

set_option maxHeartbeats 4000000 in
set_option maxRecDepth 100000 in
theorem mX_countsR (l : Launch) (D : va_G) (cI cD cL : ClassId) (tR tC sz : Nat) (ad : Nat → Nat) (n : Nat) (fi : Nat → Int32) (fo : Nat → Int32) (fw : Nat → Int32) (fe : Nat → UInt64) (d : Int32) (hs : Int64) : Met l yX2_counts (ws_ yX2_counts cX2_counts 2 (some (.array .int))) ({ frames := 0, cells := 0, slots := 0, locals := 0 } : Room) (pX [.ref (ad 1), .ref (ad 0)] D [(ad 0, .inr (0, [.ref (ad 1), .ref (ad 2), .int (nI n), .ref (ad 3), .ref (ad 4), .ref (ad 5), .ref (ad 6), .int d, .long hs])), (ad 1, .inr (1, [])), (ad 2, .inr (2, [])), (ad 3, .inl (cI, 6, .inl fi)), (ad 4, .inl (cI, 6, .inl fo)), (ad 5, .inl (cI, 36, .inl fw)), (ad 6, .inl (cD, 36, .inr (.inr (.inr (.inl fe)))))] cI cD cL tR tC sz) (rR (ad 3)) 0 0 (fun _ => False) := by
  refine mR_ (by decide +kernel) (Nat.le_of_ble_eq_true rfl) ?_
  intro p e s m below meth c A hx hb hr hml hown hts hK hA hE hlocks hin hsz hP hD hS ls hl
  have hown : s.vm.findClass RX2 = some m.cls := hown
  have hl : lv_has ls 2 [(0, .ref (ad 1)), (1, .ref (ad 0))] := hl
  refine lv_aload_n hx hb dX2_counts_0 rfl (lv_at hl 1 rfl) ?_
  refine va_getN (D := D) (ci := 0) (v := .ref (ad 3)) (C := RX1) (T := TX1) (N := 9) hx hb hts in_X1 hown hK hP 0 rfl rfl 3 (by decide) (va_Nw.use rfl (xt_q106 hE.T)) (fun _ h9 => h9) rfl dX2_counts_1 ?_
  exact er_r hx hb hr (Or.inr ⟨_, rfl⟩) hlocks rfl dX2_counts_4

set_option maxHeartbeats 4000000 in
set_option maxRecDepth 100000 in
theorem mX_countsC (l : Launch) (D : va_G) (cI cD cL : ClassId) (tR tC sz : Nat) (ad : Nat → Nat) (n : Nat) (fi : Nat → Int32) (fo : Nat → Int32) (fw : Nat → Int32) (fe : Nat → UInt64) (d : Int32) (hs : Int64) : Met l yX3_counts (ws_ yX3_counts cX3_counts 2 (some (.array .int))) ({ frames := 0, cells := 0, slots := 0, locals := 0 } : Room) (pX [.ref (ad 2), .ref (ad 0)] D [(ad 0, .inr (0, [.ref (ad 1), .ref (ad 2), .int (nI n), .ref (ad 3), .ref (ad 4), .ref (ad 5), .ref (ad 6), .int d, .long hs])), (ad 1, .inr (1, [])), (ad 2, .inr (2, [])), (ad 3, .inl (cI, 6, .inl fi)), (ad 4, .inl (cI, 6, .inl fo)), (ad 5, .inl (cI, 36, .inl fw)), (ad 6, .inl (cD, 36, .inr (.inr (.inr (.inl fe)))))] cI cD cL tR tC sz) (rR (ad 4)) 0 0 (fun _ => False) := by
  refine mR_ (by decide +kernel) (Nat.le_of_ble_eq_true rfl) ?_
  intro p e s m below meth c A hx hb hr hml hown hts hK hA hE hlocks hin hsz hP hD hS ls hl
  have hown : s.vm.findClass RX3 = some m.cls := hown
  have hl : lv_has ls 2 [(0, .ref (ad 2)), (1, .ref (ad 0))] := hl
  refine lv_aload_n hx hb dX3_counts_0 rfl (lv_at hl 1 rfl) ?_
  refine va_getN (D := D) (ci := 0) (v := .ref (ad 4)) (C := RX1) (T := TX1) (N := 9) hx hb hts in_X1 hown hK hP 0 rfl rfl 4 (by decide) (va_Nw.use rfl (xt_q109 hE.T)) (fun _ h9 => h9) rfl dX3_counts_1 ?_
  exact er_r hx hb hr (Or.inr ⟨_, rfl⟩) hlocks rfl dX3_counts_4

set_option maxHeartbeats 4000000 in
set_option maxRecDepth 100000 in
theorem mX_applyR (l : Launch) (D : va_G) (cI cD cL : ClassId) (tR tC sz : Nat) (ad : Nat → Nat) (n : Nat) (fi : Nat → Int32) (fo : Nat → Int32) (fw : Nat → Int32) (fe : Nat → UInt64) (d : Int32) (hs : Int64) (x : Nat) (hn : n ≤ 6) (hx1 : x < n) (hok : okRow fi n fe x) : Met l yX8_apply (ws_ yX8_apply cX8_apply 8 none) ({ frames := 2, cells := 0, slots := 0, locals := 48 } : Room) (pX [.ref (ad 1), .ref (ad 0), .int (nI x)] D [(ad 0, .inr (0, [.ref (ad 1), .ref (ad 2), .int (nI n), .ref (ad 3), .ref (ad 4), .ref (ad 5), .ref (ad 6), .int d, .long hs])), (ad 1, .inr (1, [])), (ad 2, .inr (2, [])), (ad 3, .inl (cI, 6, .inl fi)), (ad 4, .inl (cI, 6, .inl fo)), (ad 5, .inl (cI, 36, .inl fw)), (ad 6, .inl (cD, 36, .inr (.inr (.inr (.inl fe)))))] cI cD cL tR tC sz) (qV D [(ad 0, .inr (0, [.ref (ad 1), .ref (ad 2), .int (nI n), .ref (ad 3), .ref (ad 4), .ref (ad 5), .ref (ad 6), .int d, .long hs])), (ad 1, .inr (1, [])), (ad 2, .inr (2, [])), (ad 3, .inl (cI, 6, .inl fi)), (ad 4, .inl (cI, 6, .inl fo)), (ad 5, .inl (cI, 36, .inl fw)), (ad 6, .inl (cD, 36, .inr (.inr (.inr (.inl (rowF fi n fe x))))))] (va_A [(ad 0, .inr (0, [.ref (ad 1), .ref (ad 2), .int (nI n), .ref (ad 3), .ref (ad 4), .ref (ad 5), .ref (ad 6), .int d, .long hs])), (ad 1, .inr (1, [])), (ad 2, .inr (2, [])), (ad 3, .inl (cI, 6, .inl fi)), (ad 4, .inl (cI, 6, .inl fo)), (ad 5, .inl (cI, 36, .inl fw)), (ad 6, .inl (cD, 36, .inr (.inr (.inr (.inl fe)))))] sz)) 0 0 (va_A [(ad 0, .inr (0, [.ref (ad 1), .ref (ad 2), .int (nI n), .ref (ad 3), .ref (ad 4), .ref (ad 5), .ref (ad 6), .int d, .long hs])), (ad 1, .inr (1, [])), (ad 2, .inr (2, [])), (ad 3, .inl (cI, 6, .inl fi)), (ad 4, .inl (cI, 6, .inl fo)), (ad 5, .inl (cI, 36, .inl fw)), (ad 6, .inl (cD, 36, .inr (.inr (.inr (.inl fe)))))] sz) := by
  refine mS_ (Qf := qV D [(ad 0, .inr (0, [.ref (ad 1), .ref (ad 2), .int (nI n), .ref (ad 3), .ref (ad 4), .ref (ad 5), .ref (ad 6), .int d, .long hs])), (ad 1, .inr (1, [])), (ad 2, .inr (2, [])), (ad 3, .inl (cI, 6, .inl fi)), (ad 4, .inl (cI, 6, .inl fo)), (ad 5, .inl (cI, 36, .inl fw)), (ad 6, .inl (cD, 36, .inr (.inr (.inr (.inl (rowF fi n fe x))))))]) (by decide +kernel) (Nat.le_of_ble_eq_true rfl) ?_
  intro p e s m below meth c A hx hb hr hml hown hts hK hA hE hlocks hin hsz hP hD hS ls hl
  have hown : s.vm.findClass RX8 = some m.cls := hown
  have hl : lv_has ls 8 [(0, .ref (ad 1)), (1, .ref (ad 0)), (2, .int (nI x))] := hl
  refine lv_aload_n hx hb dX8_apply_0 rfl (lv_at hl 0 rfl) ?_
  refine kr5_r (va_runF (As := []) (rest := []) (hK.1 1 _ rfl).2 ⟨hx, hb, hml, hown, hts⟩ (mX_sideR l D cI cD cL tR tC s.heap.size ad) (va_cwF 0 hts (lw_F (C := "TurnEstimator$RowStep") (x := ⟨"TurnEstimator$Step", "side", "()LTurnEstimator$Side;"⟩) q543 q553 q555 q51 q557) rfl rfl rfl (xt_rowside hE.T) (by decide +kernel) ⟨Nat.le_of_ble_eq_true rfl, Nat.le_of_ble_eq_true rfl⟩) (pV_ (wc := [(ad 1, .inr (1, []))]) (va_recv hK hP (ci := 1) (q0 := 1) rfl rfl) hK hP hD hS hA hE [1] rfl rfl rfl) rfl rfl hl.1 rfl (lv_room (Nat.le_of_ble_eq_true rfl)) dX8_apply_1 ⟨(Nat.le_of_ble_eq_true rfl), (Nat.le_of_ble_eq_true rfl)⟩) ?_
  refine lv_aload_n hx hb dX8_apply_6 rfl (lv_at hl 1 rfl) ?_
  refine va_getN (D := D) (ci := 0) (v := .ref (ad 6)) (C := RX1) (T := TX1) (N := 9) hx hb hts in_X1 hown hK hP 0 rfl rfl 6 (by decide) (va_Nw.use rfl (xt_q115 hE.T)) (fun _ h9 => h9) rfl dX8_apply_7 ?_
  refine lv_iload_n hx hb dX8_apply_10 rfl (lv_at hl 2 rfl) ?_
  refine lv_aload_n hx hb dX8_apply_11 rfl (lv_at hl 1 rfl) ?_
  refine va_getN (D := D) (ci := 0) (v := .int (nI n)) (C := RX1) (T := TX1) (N := 9) hx hb hts in_X1 hown hK hP 0 rfl rfl 2 (by decide) (va_Nw.use rfl (xt_q102 hE.T)) (fun _ h9 => h9) rfl dX8_apply_12 ?_
  refine kr_d (va_runU (As := [.ref (ad 6), .int (nI x), .int (nI n)]) (rest := []) (C := "TurnEstimator$Side$1") (owner := RX5) (x := yX5_sum) ⟨hx, hb, hml, hown, hts⟩ (mX_side_sumR l D cI cD cL tR tC s.heap.size (ad 6) x n fe (by first | assumption | omega) (by first | assumption | omega) hok.1) (va_cwU 3 hts (lw_U (C := "TurnEstimator$Side$1") (owner := RX5) (x := yX5_sum) q559 q198 q199 q197 q63 q201) rfl rfl rfl rfl (by decide +kernel) ⟨Nat.le_of_ble_eq_true rfl, Nat.le_of_ble_eq_true rfl⟩) (pV_ (wc := [((ad 6), .inl (cD, 36, .inr (.inr (.inr (.inl fe)))))]) (va_Orecv hE.2.2.1 hS) hK hP hD hS hA hE [6] rfl rfl rfl) rfl rfl hl.1 rfl (lv_room (Nat.le_of_ble_eq_true rfl)) dX8_apply_15 ⟨(Nat.le_of_ble_eq_true rfl), (Nat.le_of_ble_eq_true rfl)⟩) ?_
  refine lv_dstore_n (lv' := [(3, .double (dsum (rowG fe x) n)), (0, .ref (ad 1)), (1, .ref (ad 0)), (2, .int (nI x))]) hx hb dX8_apply_18 rfl hl (Nat.le_of_ble_eq_true rfl) rfl (fun ls hl => ?_)
  refine lv_dload_n hx hb dX8_apply_19 rfl (lv_at hl 0 rfl) ?_
  refine lv_dconst0 hx hb dX8_apply_20 ?_
  refine lv_dcmp hx hb dX8_apply_21 ?_
  refine w_if_leD hx hb (dsum (rowG fe x) n) FP.dconst0 (tgt := 79) dX8_apply_22 (by decide) (fun c_1 => ?_) (fun c_1 => ?_)
  · obtain ⟨hP, hD⟩ := re_d (ws' := [(ad 0, .inr (0, [.ref (ad 1), .ref (ad 2), .int (nI n), .ref (ad 3), .ref (ad 4), .ref (ad 5), .ref (ad 6), .int d, .long hs])), (ad 1, .inr (1, [])), (ad 2, .inr (2, [])), (ad 3, .inl (cI, 6, .inl fi)), (ad 4, .inl (cI, 6, .inl fo)), (ad 5, .inl (cI, 36, .inl fw)), (ad 6, .inl (cD, 36, .inr (.inr (.inr (.inl (rowF fi n fe x))))))]) (g := rowF fi n fe x) hP hD 6 rfl (fun k _ => by unfold rowF; rw [if_neg (by assumption)]) rfl
    exact es_v hx hb hr hlocks hP hD hS dX8_apply_79
  · refine lv_aload_n hx hb dX8_apply_25 rfl (lv_at hl 1 rfl) ?_
    refine lv_aload_n hx hb dX8_apply_26 rfl (lv_at hl 2 rfl) ?_
    refine kr5_r (va_runF (As := [.ref (ad 0)]) (rest := []) (hK.1 1 _ rfl).2 ⟨hx, hb, hml, hown, hts⟩ (mX_countsR l D cI cD cL tR tC s.heap.size ad n fi fo fw fe d hs) (va_cwF 1 hts (lw_F (C := "TurnEstimator$RowStep") (x := ⟨"TurnEstimator$Step", "counts", "(LTurnEstimator;)[I"⟩) q561 q569 q571 q51 q573) rfl rfl rfl (xt_rowcounts hE.T) (by decide +kernel) ⟨Nat.le_of_ble_eq_true rfl, Nat.le_of_ble_eq_true rfl⟩) (pV_ (wc := [(ad 0, .inr (0, [.ref (ad 1), .ref (ad 2), .int (nI n), .ref (ad 3), .ref (ad 4), .ref (ad 5), .ref (ad 6), .int d, .long hs])), (ad 1, .inr (1, [])), (ad 2, .inr (2, [])), (ad 3, .inl (cI, 6, .inl fi)), (ad 4, .inl (cI, 6, .inl fo)), (ad 5, .inl (cI, 36, .inl fw)), (ad 6, .inl (cD, 36, .inr (.inr (.inr (.inl fe)))))]) (va_recv hK hP (ci := 1) (q0 := 1) rfl rfl) hK hP hD hS hA hE [0, 1, 2, 3, 4, 5, 6] rfl rfl rfl) rfl rfl hl.1 rfl (lv_room (Nat.le_of_ble_eq_true rfl)) dX8_apply_27 ⟨(Nat.le_of_ble_eq_true rfl), (Nat.le_of_ble_eq_true rfl)⟩) ?_
    refine lv_iload_n hx hb dX8_apply_32 rfl (lv_at hl 3 rfl) ?_
    refine w_iald hx hb hK hP 3 0 rfl rfl x (by omega) (by decide) dX8_apply_33 ?_
    refine lv_i2d hx hb dX8_apply_34 ?_
    refine lv_dload_n hx hb dX8_apply_35 rfl (lv_at hl 0 rfl) ?_
    refine lv_ddiv hx hb dX8_apply_36 (hok.2 (by assumption)).1 ?_
    refine lv_dstore (lv' := [(5, .double (FP.ddiv (FP.i2d (fi x)) (dsum (rowG fe x) n))), (3, .double (dsum (rowG fe x) n)), (0, .ref (ad 1)), (1, .ref (ad 0)), (2, .int (nI x))]) hx hb dX8_apply_37 hl (Nat.le_of_ble_eq_true rfl) rfl (fun ls hl => ?_)
    refine lv_iconst (v := 0) hx hb dX8_apply_39 (by decide) ?_
    refine lv_istore (lv' := [(7, .int 0), (5, .double (FP.ddiv (FP.i2d (fi x)) (dsum (rowG fe x) n))), (3, .double (dsum (rowG fe x) n)), (0, .ref (ad 1)), (1, .ref (ad 0)), (2, .int (nI x))]) hx hb dX8_apply_40 hl (Nat.le_of_ble_eq_true rfl) rfl (fun ls hl => ?_)
    have L_2 : ∀ (N : Nat) (j : Nat) (g : Nat → UInt64), n - j < N → (j ≤ n) → (∀ k, k < 36 → g k = mulRow fe x (FP.ddiv (FP.i2d (fi x)) (dsum (rowG fe x) n)) j k) → ∀ (H : Heap) (locs : List Loc), va_P D vwCl [(ad 0, .inr (0, [.ref (ad 1), .ref (ad 2), .int (nI n), .ref (ad 3), .ref (ad 4), .ref (ad 5), .ref (ad 6), .int d, .long hs])), (ad 1, .inr (1, [])), (ad 2, .inr (2, [])), (ad 3, .inl (cI, 6, .inl fi)), (ad 4, .inl (cI, 6, .inl fo)), (ad 5, .inl (cI, 36, .inl fw)), (ad 6, .inl (cD, 36, .inr (.inr (.inr (.inl g)))))] H → va_D A [(ad 0, .inr (0, [.ref (ad 1), .ref (ad 2), .int (nI n), .ref (ad 3), .ref (ad 4), .ref (ad 5), .ref (ad 6), .int d, .long hs])), (ad 1, .inr (1, [])), (ad 2, .inr (2, [])), (ad 3, .inl (cI, 6, .inl fi)), (ad 4, .inl (cI, 6, .inl fo)), (ad 5, .inl (cI, 36, .inl fw)), (ad 6, .inl (cD, 36, .inr (.inr (.inr (.inl g)))))] → va_S A s.heap H locs → ∀ ls : Array Slot, lv_has ls 8 [(7, .int (nI j)), (5, .double (FP.ddiv (FP.i2d (fi x)) (dsum (rowG fe x) n))), (3, .double (dsum (rowG fe x) n)), (0, .ref (ad 1)), (1, .ref (ad 0)), (2, .int (nI x))] → W p l e ({ frames := 2, cells := 0, slots := 0, locals := 48 } : Room) s m ([.ref (ad 1), .ref (ad 0), .int (nI x)] : List Value).toArray below meth c H locs 0 0 (MQ below (qV D [(ad 0, .inr (0, [.ref (ad 1), .ref (ad 2), .int (nI n), .ref (ad 3), .ref (ad 4), .ref (ad 5), .ref (ad 6), .int d, .long hs])), (ad 1, .inr (1, [])), (ad 2, .inr (2, [])), (ad 3, .inl (cI, 6, .inl fi)), (ad 4, .inl (cI, 6, .inl fo)), (ad 5, .inl (cI, 36, .inl fw)), (ad 6, .inl (cD, 36, .inr (.inr (.inr (.inl (rowF fi n fe x))))))] A) ([.ref (ad 1), .ref (ad 0), .int (nI x)] : List Value).toArray s 0 0 A) (F0 m 42 ls []) := by
      intro N
      induction N with
      | zero => intro j g hN; exact absurd hN (Nat.not_lt_zero _)
      | succ N ih42 =>
        intro j g hN42 hj hg H locs hP hD hS ls hl
        refine lv_iload hx hb dX8_apply_42 (lv_at hl 0 rfl) ?_
        refine lv_aload_n hx hb dX8_apply_44 rfl (lv_at hl 4 rfl) ?_
        refine va_getN (D := D) (ci := 0) (v := .int (nI n)) (C := RX1) (T := TX1) (N := 9) hx hb hts in_X1 hown hK hP 0 rfl rfl 2 (by decide) (va_Nw.use rfl (xt_q102 hE.T)) (fun _ h9 => h9) rfl dX8_apply_45 ?_
        refine w_icmp_geN hx hb j n (by omega) (by omega) (tgt := 79) dX8_apply_48 (by decide) (fun c_3 => ?_) (fun c_3 => ?_)
        · obtain ⟨hP, hD⟩ := re_d (ws' := [(ad 0, .inr (0, [.ref (ad 1), .ref (ad 2), .int (nI n), .ref (ad 3), .ref (ad 4), .ref (ad 5), .ref (ad 6), .int d, .long hs])), (ad 1, .inr (1, [])), (ad 2, .inr (2, [])), (ad 3, .inl (cI, 6, .inl fi)), (ad 4, .inl (cI, 6, .inl fo)), (ad 5, .inl (cI, 36, .inl fw)), (ad 6, .inl (cD, 36, .inr (.inr (.inr (.inl (rowF fi n fe x))))))]) (g := rowF fi n fe x) hP hD 6 rfl (fun k hk => by rw [hg k hk, show j = n by omega]; unfold rowF; rw [if_pos (by assumption)]) rfl
          exact es_v hx hb hr hlocks hP hD hS dX8_apply_79
        · refine lv_aload_n hx hb dX8_apply_51 rfl (lv_at hl 4 rfl) ?_
          refine va_getN (D := D) (ci := 0) (v := .ref (ad 6)) (C := RX1) (T := TX1) (N := 9) hx hb hts in_X1 hown hK hP 0 rfl rfl 6 (by decide) (va_Nw.use rfl (xt_q115 hE.T)) (fun _ h9 => h9) rfl dX8_apply_52 ?_
          refine lv_aload_n hx hb dX8_apply_55 rfl (lv_at hl 3 rfl) ?_
          refine kr5_r (va_runF (As := []) (rest := [.ref (ad 6)]) (hK.1 1 _ rfl).2 ⟨hx, hb, hml, hown, hts⟩ (mX_sideR l D cI cD cL tR tC H.size ad) (va_cwF 0 hts (lw_F (C := "TurnEstimator$RowStep") (x := ⟨"TurnEstimator$Step", "side", "()LTurnEstimator$Side;"⟩) q543 q553 q555 q51 q557) rfl rfl rfl (xt_rowside hE.T) (by decide +kernel) ⟨Nat.le_of_ble_eq_true rfl, Nat.le_of_ble_eq_true rfl⟩) (pV_ (wc := [(ad 1, .inr (1, []))]) (va_recv hK hP (ci := 1) (q0 := 1) rfl rfl) hK hP hD hS hA hE [1] rfl rfl rfl) rfl rfl hl.1 rfl (lv_room (Nat.le_of_ble_eq_true rfl)) dX8_apply_56 ⟨(Nat.le_of_ble_eq_true rfl), (Nat.le_of_ble_eq_true rfl)⟩) ?_
          refine lv_iload_n hx hb dX8_apply_61 rfl (lv_at hl 5 rfl) ?_
          refine lv_iload hx hb dX8_apply_62 (lv_at hl 0 rfl) ?_
          refine w_place (C := "TurnEstimator$Side$1") (owner := "TurnEstimator$Side") (x := ⟨"TurnEstimator$Side", "place", "(II)I"⟩) (y := yX9_place) ⟨hx, hb, hml, hown, hts⟩ (w_plR x j hx hts ⟨Nat.le_of_ble_eq_true rfl, Nat.le_of_ble_eq_true rfl⟩) q574 q204 (xt_q203 hE.T) q205 q206 q207 (by decide +kernel) (va_Orecv hE.2.2.1 hS) hl.1 (lv_room (Nat.le_of_ble_eq_true rfl)) dX8_apply_64 ?_
          refine lv_dup2_11 hx hb dX8_apply_67 rfl rfl ?_
          refine w_dald hx hb hK hP 6 1 rfl rfl (6 * x + j) (by omega) (by decide) dX8_apply_68 ?_
          refine lv_dload hx hb dX8_apply_69 (lv_at hl 1 rfl) ?_
          refine lv_dmul hx hb dX8_apply_71 (by rw [hg _ (by omega), mulRow_x]; exact (hok.2 (by assumption)).2 j (by omega)) ?_
          refine w_dast hx hb hK hP hD hS 6 1 rfl rfl (6 * x + j) (by omega) (by decide) dX8_apply_72 (fun H locs hP hD hS => ?_)
          have hP : va_P D vwCl [(ad 0, .inr (0, [.ref (ad 1), .ref (ad 2), .int (nI n), .ref (ad 3), .ref (ad 4), .ref (ad 5), .ref (ad 6), .int d, .long hs])), (ad 1, .inr (1, [])), (ad 2, .inr (2, [])), (ad 3, .inl (cI, 6, .inl fi)), (ad 4, .inl (cI, 6, .inl fo)), (ad 5, .inl (cI, 36, .inl fw)), (ad 6, .inl (cD, 36, .inr (.inr (.inr (.inl (vf_upd g (6 * x + j) (FP.dmul (g (6 * x + j)) (FP.ddiv (FP.i2d (fi x)) (dsum (rowG fe x) n)))))))))] H := hP
          have hD : va_D A [(ad 0, .inr (0, [.ref (ad 1), .ref (ad 2), .int (nI n), .ref (ad 3), .ref (ad 4), .ref (ad 5), .ref (ad 6), .int d, .long hs])), (ad 1, .inr (1, [])), (ad 2, .inr (2, [])), (ad 3, .inl (cI, 6, .inl fi)), (ad 4, .inl (cI, 6, .inl fo)), (ad 5, .inl (cI, 36, .inl fw)), (ad 6, .inl (cD, 36, .inr (.inr (.inr (.inl (vf_upd g (6 * x + j) (FP.dmul (g (6 * x + j)) (FP.ddiv (FP.i2d (fi x)) (dsum (rowG fe x) n)))))))))] := hD
          refine w_iinc hx hb j (lv' := [(7, .int (nI (j + 1))), (5, .double (FP.ddiv (FP.i2d (fi x)) (dsum (rowG fe x) n))), (3, .double (dsum (rowG fe x) n)), (0, .ref (ad 1)), (1, .ref (ad 0)), (2, .int (nI x))]) dX8_apply_73 hl (k := 0) rfl (Nat.le_of_ble_eq_true rfl) rfl (fun ls hl => ?_)
          refine lv_goto (tgt := 42) hx hb dX8_apply_76 (by decide) ?_
          exact ih42 (j + 1) (vf_upd g (6 * x + j) (FP.dmul (g (6 * x + j)) (FP.ddiv (FP.i2d (fi x)) (dsum (rowG fe x) n)))) (by omega) (by omega) (mulRow_s (by omega) hg) H locs hP hD hS ls (lv_sub hl [0, 1, 2, 3, 4, 5] rfl)
    exact L_2 ((n - 0) + 1) 0 fe (Nat.lt_succ_self _) (by omega) (mulRow_0 _ _ _ _) s.heap [] hP hD hS ls (lv_sub hl [0, 1, 2, 3, 4, 5] rfl)

set_option maxHeartbeats 4000000 in
set_option maxRecDepth 100000 in
theorem mX_applyC (l : Launch) (D : va_G) (cI cD cL : ClassId) (tR tC sz : Nat) (ad : Nat → Nat) (n : Nat) (fi : Nat → Int32) (fo : Nat → Int32) (fw : Nat → Int32) (fe : Nat → UInt64) (d : Int32) (hs : Int64) (x : Nat) (hn : n ≤ 6) (hx1 : x < n) (hok : okCol fo n fe x) : Met l yX8_apply (ws_ yX8_apply cX8_apply 8 none) ({ frames := 2, cells := 0, slots := 0, locals := 48 } : Room) (pX [.ref (ad 2), .ref (ad 0), .int (nI x)] D [(ad 0, .inr (0, [.ref (ad 1), .ref (ad 2), .int (nI n), .ref (ad 3), .ref (ad 4), .ref (ad 5), .ref (ad 6), .int d, .long hs])), (ad 1, .inr (1, [])), (ad 2, .inr (2, [])), (ad 3, .inl (cI, 6, .inl fi)), (ad 4, .inl (cI, 6, .inl fo)), (ad 5, .inl (cI, 36, .inl fw)), (ad 6, .inl (cD, 36, .inr (.inr (.inr (.inl fe)))))] cI cD cL tR tC sz) (qV D [(ad 0, .inr (0, [.ref (ad 1), .ref (ad 2), .int (nI n), .ref (ad 3), .ref (ad 4), .ref (ad 5), .ref (ad 6), .int d, .long hs])), (ad 1, .inr (1, [])), (ad 2, .inr (2, [])), (ad 3, .inl (cI, 6, .inl fi)), (ad 4, .inl (cI, 6, .inl fo)), (ad 5, .inl (cI, 36, .inl fw)), (ad 6, .inl (cD, 36, .inr (.inr (.inr (.inl (colF fo n fe x))))))] (va_A [(ad 0, .inr (0, [.ref (ad 1), .ref (ad 2), .int (nI n), .ref (ad 3), .ref (ad 4), .ref (ad 5), .ref (ad 6), .int d, .long hs])), (ad 1, .inr (1, [])), (ad 2, .inr (2, [])), (ad 3, .inl (cI, 6, .inl fi)), (ad 4, .inl (cI, 6, .inl fo)), (ad 5, .inl (cI, 36, .inl fw)), (ad 6, .inl (cD, 36, .inr (.inr (.inr (.inl fe)))))] sz)) 0 0 (va_A [(ad 0, .inr (0, [.ref (ad 1), .ref (ad 2), .int (nI n), .ref (ad 3), .ref (ad 4), .ref (ad 5), .ref (ad 6), .int d, .long hs])), (ad 1, .inr (1, [])), (ad 2, .inr (2, [])), (ad 3, .inl (cI, 6, .inl fi)), (ad 4, .inl (cI, 6, .inl fo)), (ad 5, .inl (cI, 36, .inl fw)), (ad 6, .inl (cD, 36, .inr (.inr (.inr (.inl fe)))))] sz) := by
  refine mS_ (Qf := qV D [(ad 0, .inr (0, [.ref (ad 1), .ref (ad 2), .int (nI n), .ref (ad 3), .ref (ad 4), .ref (ad 5), .ref (ad 6), .int d, .long hs])), (ad 1, .inr (1, [])), (ad 2, .inr (2, [])), (ad 3, .inl (cI, 6, .inl fi)), (ad 4, .inl (cI, 6, .inl fo)), (ad 5, .inl (cI, 36, .inl fw)), (ad 6, .inl (cD, 36, .inr (.inr (.inr (.inl (colF fo n fe x))))))]) (by decide +kernel) (Nat.le_of_ble_eq_true rfl) ?_
  intro p e s m below meth c A hx hb hr hml hown hts hK hA hE hlocks hin hsz hP hD hS ls hl
  have hown : s.vm.findClass RX8 = some m.cls := hown
  have hl : lv_has ls 8 [(0, .ref (ad 2)), (1, .ref (ad 0)), (2, .int (nI x))] := hl
  refine lv_aload_n hx hb dX8_apply_0 rfl (lv_at hl 0 rfl) ?_
  refine kr5_r (va_runF (As := []) (rest := []) (hK.1 2 _ rfl).2 ⟨hx, hb, hml, hown, hts⟩ (mX_sideC l D cI cD cL tR tC s.heap.size ad) (va_cwF 0 hts (lw_F (C := "TurnEstimator$ColumnStep") (x := ⟨"TurnEstimator$Step", "side", "()LTurnEstimator$Side;"⟩) q543 q546 q548 q52 q550) rfl rfl rfl (xt_colside hE.T) (by decide +kernel) ⟨Nat.le_of_ble_eq_true rfl, Nat.le_of_ble_eq_true rfl⟩) (pV_ (wc := [(ad 2, .inr (2, []))]) (va_recv hK hP (ci := 2) (q0 := 2) rfl rfl) hK hP hD hS hA hE [2] rfl rfl rfl) rfl rfl hl.1 rfl (lv_room (Nat.le_of_ble_eq_true rfl)) dX8_apply_1 ⟨(Nat.le_of_ble_eq_true rfl), (Nat.le_of_ble_eq_true rfl)⟩) ?_
  refine lv_aload_n hx hb dX8_apply_6 rfl (lv_at hl 1 rfl) ?_
  refine va_getN (D := D) (ci := 0) (v := .ref (ad 6)) (C := RX1) (T := TX1) (N := 9) hx hb hts in_X1 hown hK hP 0 rfl rfl 6 (by decide) (va_Nw.use rfl (xt_q115 hE.T)) (fun _ h9 => h9) rfl dX8_apply_7 ?_
  refine lv_iload_n hx hb dX8_apply_10 rfl (lv_at hl 2 rfl) ?_
  refine lv_aload_n hx hb dX8_apply_11 rfl (lv_at hl 1 rfl) ?_
  refine va_getN (D := D) (ci := 0) (v := .int (nI n)) (C := RX1) (T := TX1) (N := 9) hx hb hts in_X1 hown hK hP 0 rfl rfl 2 (by decide) (va_Nw.use rfl (xt_q102 hE.T)) (fun _ h9 => h9) rfl dX8_apply_12 ?_
  refine kr_d (va_runU (As := [.ref (ad 6), .int (nI x), .int (nI n)]) (rest := []) (C := "TurnEstimator$Side$2") (owner := RX5) (x := yX5_sum) ⟨hx, hb, hml, hown, hts⟩ (mX_side_sumC l D cI cD cL tR tC s.heap.size (ad 6) x n fe (by first | assumption | omega) (by first | assumption | omega) hok.1) (va_cwU 3 hts (lw_U (C := "TurnEstimator$Side$2") (owner := RX5) (x := yX5_sum) q559 q198 q200 q197 q63 q201) rfl rfl rfl rfl (by decide +kernel) ⟨Nat.le_of_ble_eq_true rfl, Nat.le_of_ble_eq_true rfl⟩) (pV_ (wc := [((ad 6), .inl (cD, 36, .inr (.inr (.inr (.inl fe)))))]) (va_Orecv hE.2.2.2.1 hS) hK hP hD hS hA hE [6] rfl rfl rfl) rfl rfl hl.1 rfl (lv_room (Nat.le_of_ble_eq_true rfl)) dX8_apply_15 ⟨(Nat.le_of_ble_eq_true rfl), (Nat.le_of_ble_eq_true rfl)⟩) ?_
  refine lv_dstore_n (lv' := [(3, .double (dsum (colG fe x) n)), (0, .ref (ad 2)), (1, .ref (ad 0)), (2, .int (nI x))]) hx hb dX8_apply_18 rfl hl (Nat.le_of_ble_eq_true rfl) rfl (fun ls hl => ?_)
  refine lv_dload_n hx hb dX8_apply_19 rfl (lv_at hl 0 rfl) ?_
  refine lv_dconst0 hx hb dX8_apply_20 ?_
  refine lv_dcmp hx hb dX8_apply_21 ?_
  refine w_if_leD hx hb (dsum (colG fe x) n) FP.dconst0 (tgt := 79) dX8_apply_22 (by decide) (fun c_1 => ?_) (fun c_1 => ?_)
  · obtain ⟨hP, hD⟩ := re_d (ws' := [(ad 0, .inr (0, [.ref (ad 1), .ref (ad 2), .int (nI n), .ref (ad 3), .ref (ad 4), .ref (ad 5), .ref (ad 6), .int d, .long hs])), (ad 1, .inr (1, [])), (ad 2, .inr (2, [])), (ad 3, .inl (cI, 6, .inl fi)), (ad 4, .inl (cI, 6, .inl fo)), (ad 5, .inl (cI, 36, .inl fw)), (ad 6, .inl (cD, 36, .inr (.inr (.inr (.inl (colF fo n fe x))))))]) (g := colF fo n fe x) hP hD 6 rfl (fun k _ => by unfold colF; rw [if_neg (by assumption)]) rfl
    exact es_v hx hb hr hlocks hP hD hS dX8_apply_79
  · refine lv_aload_n hx hb dX8_apply_25 rfl (lv_at hl 1 rfl) ?_
    refine lv_aload_n hx hb dX8_apply_26 rfl (lv_at hl 2 rfl) ?_
    refine kr5_r (va_runF (As := [.ref (ad 0)]) (rest := []) (hK.1 2 _ rfl).2 ⟨hx, hb, hml, hown, hts⟩ (mX_countsC l D cI cD cL tR tC s.heap.size ad n fi fo fw fe d hs) (va_cwF 1 hts (lw_F (C := "TurnEstimator$ColumnStep") (x := ⟨"TurnEstimator$Step", "counts", "(LTurnEstimator;)[I"⟩) q561 q564 q566 q52 q568) rfl rfl rfl (xt_colcounts hE.T) (by decide +kernel) ⟨Nat.le_of_ble_eq_true rfl, Nat.le_of_ble_eq_true rfl⟩) (pV_ (wc := [(ad 0, .inr (0, [.ref (ad 1), .ref (ad 2), .int (nI n), .ref (ad 3), .ref (ad 4), .ref (ad 5), .ref (ad 6), .int d, .long hs])), (ad 1, .inr (1, [])), (ad 2, .inr (2, [])), (ad 3, .inl (cI, 6, .inl fi)), (ad 4, .inl (cI, 6, .inl fo)), (ad 5, .inl (cI, 36, .inl fw)), (ad 6, .inl (cD, 36, .inr (.inr (.inr (.inl fe)))))]) (va_recv hK hP (ci := 2) (q0 := 2) rfl rfl) hK hP hD hS hA hE [0, 1, 2, 3, 4, 5, 6] rfl rfl rfl) rfl rfl hl.1 rfl (lv_room (Nat.le_of_ble_eq_true rfl)) dX8_apply_27 ⟨(Nat.le_of_ble_eq_true rfl), (Nat.le_of_ble_eq_true rfl)⟩) ?_
    refine lv_iload_n hx hb dX8_apply_32 rfl (lv_at hl 3 rfl) ?_
    refine w_iald hx hb hK hP 4 0 rfl rfl x (by omega) (by decide) dX8_apply_33 ?_
    refine lv_i2d hx hb dX8_apply_34 ?_
    refine lv_dload_n hx hb dX8_apply_35 rfl (lv_at hl 0 rfl) ?_
    refine lv_ddiv hx hb dX8_apply_36 (hok.2 (by assumption)).1 ?_
    refine lv_dstore (lv' := [(5, .double (FP.ddiv (FP.i2d (fo x)) (dsum (colG fe x) n))), (3, .double (dsum (colG fe x) n)), (0, .ref (ad 2)), (1, .ref (ad 0)), (2, .int (nI x))]) hx hb dX8_apply_37 hl (Nat.le_of_ble_eq_true rfl) rfl (fun ls hl => ?_)
    refine lv_iconst (v := 0) hx hb dX8_apply_39 (by decide) ?_
    refine lv_istore (lv' := [(7, .int 0), (5, .double (FP.ddiv (FP.i2d (fo x)) (dsum (colG fe x) n))), (3, .double (dsum (colG fe x) n)), (0, .ref (ad 2)), (1, .ref (ad 0)), (2, .int (nI x))]) hx hb dX8_apply_40 hl (Nat.le_of_ble_eq_true rfl) rfl (fun ls hl => ?_)
    have L_2 : ∀ (N : Nat) (j : Nat) (g : Nat → UInt64), n - j < N → (j ≤ n) → (∀ k, k < 36 → g k = mulCol fe x (FP.ddiv (FP.i2d (fo x)) (dsum (colG fe x) n)) j k) → ∀ (H : Heap) (locs : List Loc), va_P D vwCl [(ad 0, .inr (0, [.ref (ad 1), .ref (ad 2), .int (nI n), .ref (ad 3), .ref (ad 4), .ref (ad 5), .ref (ad 6), .int d, .long hs])), (ad 1, .inr (1, [])), (ad 2, .inr (2, [])), (ad 3, .inl (cI, 6, .inl fi)), (ad 4, .inl (cI, 6, .inl fo)), (ad 5, .inl (cI, 36, .inl fw)), (ad 6, .inl (cD, 36, .inr (.inr (.inr (.inl g)))))] H → va_D A [(ad 0, .inr (0, [.ref (ad 1), .ref (ad 2), .int (nI n), .ref (ad 3), .ref (ad 4), .ref (ad 5), .ref (ad 6), .int d, .long hs])), (ad 1, .inr (1, [])), (ad 2, .inr (2, [])), (ad 3, .inl (cI, 6, .inl fi)), (ad 4, .inl (cI, 6, .inl fo)), (ad 5, .inl (cI, 36, .inl fw)), (ad 6, .inl (cD, 36, .inr (.inr (.inr (.inl g)))))] → va_S A s.heap H locs → ∀ ls : Array Slot, lv_has ls 8 [(7, .int (nI j)), (5, .double (FP.ddiv (FP.i2d (fo x)) (dsum (colG fe x) n))), (3, .double (dsum (colG fe x) n)), (0, .ref (ad 2)), (1, .ref (ad 0)), (2, .int (nI x))] → W p l e ({ frames := 2, cells := 0, slots := 0, locals := 48 } : Room) s m ([.ref (ad 2), .ref (ad 0), .int (nI x)] : List Value).toArray below meth c H locs 0 0 (MQ below (qV D [(ad 0, .inr (0, [.ref (ad 1), .ref (ad 2), .int (nI n), .ref (ad 3), .ref (ad 4), .ref (ad 5), .ref (ad 6), .int d, .long hs])), (ad 1, .inr (1, [])), (ad 2, .inr (2, [])), (ad 3, .inl (cI, 6, .inl fi)), (ad 4, .inl (cI, 6, .inl fo)), (ad 5, .inl (cI, 36, .inl fw)), (ad 6, .inl (cD, 36, .inr (.inr (.inr (.inl (colF fo n fe x))))))] A) ([.ref (ad 2), .ref (ad 0), .int (nI x)] : List Value).toArray s 0 0 A) (F0 m 42 ls []) := by
      intro N
      induction N with
      | zero => intro j g hN; exact absurd hN (Nat.not_lt_zero _)
      | succ N ih42 =>
        intro j g hN42 hj hg H locs hP hD hS ls hl
        refine lv_iload hx hb dX8_apply_42 (lv_at hl 0 rfl) ?_
        refine lv_aload_n hx hb dX8_apply_44 rfl (lv_at hl 4 rfl) ?_
        refine va_getN (D := D) (ci := 0) (v := .int (nI n)) (C := RX1) (T := TX1) (N := 9) hx hb hts in_X1 hown hK hP 0 rfl rfl 2 (by decide) (va_Nw.use rfl (xt_q102 hE.T)) (fun _ h9 => h9) rfl dX8_apply_45 ?_
        refine w_icmp_geN hx hb j n (by omega) (by omega) (tgt := 79) dX8_apply_48 (by decide) (fun c_3 => ?_) (fun c_3 => ?_)
        · obtain ⟨hP, hD⟩ := re_d (ws' := [(ad 0, .inr (0, [.ref (ad 1), .ref (ad 2), .int (nI n), .ref (ad 3), .ref (ad 4), .ref (ad 5), .ref (ad 6), .int d, .long hs])), (ad 1, .inr (1, [])), (ad 2, .inr (2, [])), (ad 3, .inl (cI, 6, .inl fi)), (ad 4, .inl (cI, 6, .inl fo)), (ad 5, .inl (cI, 36, .inl fw)), (ad 6, .inl (cD, 36, .inr (.inr (.inr (.inl (colF fo n fe x))))))]) (g := colF fo n fe x) hP hD 6 rfl (fun k hk => by rw [hg k hk, show j = n by omega]; unfold colF; rw [if_pos (by assumption)]) rfl
          exact es_v hx hb hr hlocks hP hD hS dX8_apply_79
        · refine lv_aload_n hx hb dX8_apply_51 rfl (lv_at hl 4 rfl) ?_
          refine va_getN (D := D) (ci := 0) (v := .ref (ad 6)) (C := RX1) (T := TX1) (N := 9) hx hb hts in_X1 hown hK hP 0 rfl rfl 6 (by decide) (va_Nw.use rfl (xt_q115 hE.T)) (fun _ h9 => h9) rfl dX8_apply_52 ?_
          refine lv_aload_n hx hb dX8_apply_55 rfl (lv_at hl 3 rfl) ?_
          refine kr5_r (va_runF (As := []) (rest := [.ref (ad 6)]) (hK.1 2 _ rfl).2 ⟨hx, hb, hml, hown, hts⟩ (mX_sideC l D cI cD cL tR tC H.size ad) (va_cwF 0 hts (lw_F (C := "TurnEstimator$ColumnStep") (x := ⟨"TurnEstimator$Step", "side", "()LTurnEstimator$Side;"⟩) q543 q546 q548 q52 q550) rfl rfl rfl (xt_colside hE.T) (by decide +kernel) ⟨Nat.le_of_ble_eq_true rfl, Nat.le_of_ble_eq_true rfl⟩) (pV_ (wc := [(ad 2, .inr (2, []))]) (va_recv hK hP (ci := 2) (q0 := 2) rfl rfl) hK hP hD hS hA hE [2] rfl rfl rfl) rfl rfl hl.1 rfl (lv_room (Nat.le_of_ble_eq_true rfl)) dX8_apply_56 ⟨(Nat.le_of_ble_eq_true rfl), (Nat.le_of_ble_eq_true rfl)⟩) ?_
          refine lv_iload_n hx hb dX8_apply_61 rfl (lv_at hl 5 rfl) ?_
          refine lv_iload hx hb dX8_apply_62 (lv_at hl 0 rfl) ?_
          refine w_place (C := "TurnEstimator$Side$2") (owner := "TurnEstimator$Side") (x := ⟨"TurnEstimator$Side", "place", "(II)I"⟩) (y := yX10_place) ⟨hx, hb, hml, hown, hts⟩ (w_plC x j hx hts ⟨Nat.le_of_ble_eq_true rfl, Nat.le_of_ble_eq_true rfl⟩) q574 q204 (xt_q203 hE.T) q208 q209 q210 (by decide +kernel) (va_Orecv hE.2.2.2.1 hS) hl.1 (lv_room (Nat.le_of_ble_eq_true rfl)) dX8_apply_64 ?_
          refine lv_dup2_11 hx hb dX8_apply_67 rfl rfl ?_
          refine w_dald hx hb hK hP 6 1 rfl rfl (6 * j + x) (by omega) (by decide) dX8_apply_68 ?_
          refine lv_dload hx hb dX8_apply_69 (lv_at hl 1 rfl) ?_
          refine lv_dmul hx hb dX8_apply_71 (by rw [hg _ (by omega), mulCol_x (by omega)]; exact (hok.2 (by assumption)).2 j (by omega)) ?_
          refine w_dast hx hb hK hP hD hS 6 1 rfl rfl (6 * j + x) (by omega) (by decide) dX8_apply_72 (fun H locs hP hD hS => ?_)
          have hP : va_P D vwCl [(ad 0, .inr (0, [.ref (ad 1), .ref (ad 2), .int (nI n), .ref (ad 3), .ref (ad 4), .ref (ad 5), .ref (ad 6), .int d, .long hs])), (ad 1, .inr (1, [])), (ad 2, .inr (2, [])), (ad 3, .inl (cI, 6, .inl fi)), (ad 4, .inl (cI, 6, .inl fo)), (ad 5, .inl (cI, 36, .inl fw)), (ad 6, .inl (cD, 36, .inr (.inr (.inr (.inl (vf_upd g (6 * j + x) (FP.dmul (g (6 * j + x)) (FP.ddiv (FP.i2d (fo x)) (dsum (colG fe x) n)))))))))] H := hP
          have hD : va_D A [(ad 0, .inr (0, [.ref (ad 1), .ref (ad 2), .int (nI n), .ref (ad 3), .ref (ad 4), .ref (ad 5), .ref (ad 6), .int d, .long hs])), (ad 1, .inr (1, [])), (ad 2, .inr (2, [])), (ad 3, .inl (cI, 6, .inl fi)), (ad 4, .inl (cI, 6, .inl fo)), (ad 5, .inl (cI, 36, .inl fw)), (ad 6, .inl (cD, 36, .inr (.inr (.inr (.inl (vf_upd g (6 * j + x) (FP.dmul (g (6 * j + x)) (FP.ddiv (FP.i2d (fo x)) (dsum (colG fe x) n)))))))))] := hD
          refine w_iinc hx hb j (lv' := [(7, .int (nI (j + 1))), (5, .double (FP.ddiv (FP.i2d (fo x)) (dsum (colG fe x) n))), (3, .double (dsum (colG fe x) n)), (0, .ref (ad 2)), (1, .ref (ad 0)), (2, .int (nI x))]) dX8_apply_73 hl (k := 0) rfl (Nat.le_of_ble_eq_true rfl) rfl (fun ls hl => ?_)
          refine lv_goto (tgt := 42) hx hb dX8_apply_76 (by decide) ?_
          exact ih42 (j + 1) (vf_upd g (6 * j + x) (FP.dmul (g (6 * j + x)) (FP.ddiv (FP.i2d (fo x)) (dsum (colG fe x) n)))) (by omega) (by omega) (mulCol_s (by omega) (by omega) hg) H locs hP hD hS ls (lv_sub hl [0, 1, 2, 3, 4, 5] rfl)
    exact L_2 ((n - 0) + 1) 0 fe (Nat.lt_succ_self _) (by omega) (mulCol_0 _ _ _ _) s.heap [] hP hD hS ls (lv_sub hl [0, 1, 2, 3, 4, 5] rfl)

set_option maxHeartbeats 4000000 in
set_option maxRecDepth 100000 in
theorem mX_round (l : Launch) (D : va_G) (cI cD cL : ClassId) (tR tC sz : Nat) (ad : Nat → Nat) (n : Nat) (fi : Nat → Int32) (fo : Nat → Int32) (fw : Nat → Int32) (fe : Nat → UInt64) (d : Int32) (hs : Int64) (hn : n ≤ 6) (hok : okRound fi fo n fe) : Met l yX1_round (ws_ yX1_round cX1_round 2 none) ({ frames := 3, cells := 0, slots := 0, locals := 75 } : Room) (pX [.ref (ad 0)] D [(ad 0, .inr (0, [.ref (ad 1), .ref (ad 2), .int (nI n), .ref (ad 3), .ref (ad 4), .ref (ad 5), .ref (ad 6), .int d, .long hs])), (ad 1, .inr (1, [])), (ad 2, .inr (2, [])), (ad 3, .inl (cI, 6, .inl fi)), (ad 4, .inl (cI, 6, .inl fo)), (ad 5, .inl (cI, 36, .inl fw)), (ad 6, .inl (cD, 36, .inr (.inr (.inr (.inl fe)))))] cI cD cL tR tC sz) (qV D [(ad 0, .inr (0, [.ref (ad 1), .ref (ad 2), .int (nI n), .ref (ad 3), .ref (ad 4), .ref (ad 5), .ref (ad 6), .int (d + 1), .long hs])), (ad 1, .inr (1, [])), (ad 2, .inr (2, [])), (ad 3, .inl (cI, 6, .inl fi)), (ad 4, .inl (cI, 6, .inl fo)), (ad 5, .inl (cI, 36, .inl fw)), (ad 6, .inl (cD, 36, .inr (.inr (.inr (.inl (roundF fi fo n fe))))))] (va_A [(ad 0, .inr (0, [.ref (ad 1), .ref (ad 2), .int (nI n), .ref (ad 3), .ref (ad 4), .ref (ad 5), .ref (ad 6), .int d, .long hs])), (ad 1, .inr (1, [])), (ad 2, .inr (2, [])), (ad 3, .inl (cI, 6, .inl fi)), (ad 4, .inl (cI, 6, .inl fo)), (ad 5, .inl (cI, 36, .inl fw)), (ad 6, .inl (cD, 36, .inr (.inr (.inr (.inl fe)))))] sz)) 0 0 (va_A [(ad 0, .inr (0, [.ref (ad 1), .ref (ad 2), .int (nI n), .ref (ad 3), .ref (ad 4), .ref (ad 5), .ref (ad 6), .int d, .long hs])), (ad 1, .inr (1, [])), (ad 2, .inr (2, [])), (ad 3, .inl (cI, 6, .inl fi)), (ad 4, .inl (cI, 6, .inl fo)), (ad 5, .inl (cI, 36, .inl fw)), (ad 6, .inl (cD, 36, .inr (.inr (.inr (.inl fe)))))] sz) := by
  refine mS_ (Qf := qV D [(ad 0, .inr (0, [.ref (ad 1), .ref (ad 2), .int (nI n), .ref (ad 3), .ref (ad 4), .ref (ad 5), .ref (ad 6), .int (d + 1), .long hs])), (ad 1, .inr (1, [])), (ad 2, .inr (2, [])), (ad 3, .inl (cI, 6, .inl fi)), (ad 4, .inl (cI, 6, .inl fo)), (ad 5, .inl (cI, 36, .inl fw)), (ad 6, .inl (cD, 36, .inr (.inr (.inr (.inl (roundF fi fo n fe))))))]) (by decide +kernel) (Nat.le_of_ble_eq_true rfl) ?_
  intro p e s m below meth c A hx hb hr hml hown hts hK hA hE hlocks hin hsz hP hD hS ls hl
  have hown : s.vm.findClass RX1 = some m.cls := hown
  have hl : lv_has ls 2 [(0, .ref (ad 0))] := hl
  refine lv_iconst (v := 0) hx hb dX1_round_0 (by decide) ?_
  refine lv_istore_n (lv' := [(1, .int 0), (0, .ref (ad 0))]) hx hb dX1_round_1 rfl hl (Nat.le_of_ble_eq_true rfl) rfl (fun ls hl => ?_)
  have L_1 : ∀ (N : Nat) (i : Nat), n - i < N → (i ≤ n) → ∀ (H : Heap) (locs : List Loc), va_P D vwCl [(ad 0, .inr (0, [.ref (ad 1), .ref (ad 2), .int (nI n), .ref (ad 3), .ref (ad 4), .ref (ad 5), .ref (ad 6), .int d, .long hs])), (ad 1, .inr (1, [])), (ad 2, .inr (2, [])), (ad 3, .inl (cI, 6, .inl fi)), (ad 4, .inl (cI, 6, .inl fo)), (ad 5, .inl (cI, 36, .inl fw)), (ad 6, .inl (cD, 36, .inr (.inr (.inr (.inl (rowsF fi n fe i))))))] H → va_D A [(ad 0, .inr (0, [.ref (ad 1), .ref (ad 2), .int (nI n), .ref (ad 3), .ref (ad 4), .ref (ad 5), .ref (ad 6), .int d, .long hs])), (ad 1, .inr (1, [])), (ad 2, .inr (2, [])), (ad 3, .inl (cI, 6, .inl fi)), (ad 4, .inl (cI, 6, .inl fo)), (ad 5, .inl (cI, 36, .inl fw)), (ad 6, .inl (cD, 36, .inr (.inr (.inr (.inl (rowsF fi n fe i))))))] → va_S A s.heap H locs → ∀ ls : Array Slot, lv_has ls 2 [(1, .int (nI i)), (0, .ref (ad 0))] → W p l e ({ frames := 3, cells := 0, slots := 0, locals := 75 } : Room) s m ([.ref (ad 0)] : List Value).toArray below meth c H locs 0 0 (MQ below (qV D [(ad 0, .inr (0, [.ref (ad 1), .ref (ad 2), .int (nI n), .ref (ad 3), .ref (ad 4), .ref (ad 5), .ref (ad 6), .int (d + 1), .long hs])), (ad 1, .inr (1, [])), (ad 2, .inr (2, [])), (ad 3, .inl (cI, 6, .inl fi)), (ad 4, .inl (cI, 6, .inl fo)), (ad 5, .inl (cI, 36, .inl fw)), (ad 6, .inl (cD, 36, .inr (.inr (.inr (.inl (roundF fi fo n fe))))))] A) ([.ref (ad 0)] : List Value).toArray s 0 0 A) (F0 m 2 ls []) := by
    intro N
    induction N with
    | zero => intro i hN; exact absurd hN (Nat.not_lt_zero _)
    | succ N ih2 =>
      intro i hN2 hi H locs hP hD hS ls hl
      refine lv_iload_n hx hb dX1_round_2 rfl (lv_at hl 0 rfl) ?_
      refine lv_aload_n hx hb dX1_round_3 rfl (lv_at hl 1 rfl) ?_
      refine va_get (D := D) (ci := 0) (v := .int (nI n)) (C := RX1) (T := TX1) (N := 9) hx hb hts in_X1 hown hK hP 0 rfl rfl 2 (by decide) (hts _ q103) (fun _ h9 => h9) rfl dX1_round_4 ?_
      refine w_icmp_geN hx hb i n (by omega) (by omega) (tgt := 27) dX1_round_7 (by decide) (fun c_2 => ?_) (fun c_2 => ?_)
      · obtain rfl : n = i := by omega
        refine lv_iconst (v := 0) hx hb dX1_round_27 (by decide) ?_
        refine lv_istore_n (lv' := [(1, .int 0), (0, .ref (ad 0))]) hx hb dX1_round_28 rfl hl (Nat.le_of_ble_eq_true rfl) rfl (fun ls hl => ?_)
        have L_3 : ∀ (N : Nat) (i2 : Nat), n - i2 < N → (i2 ≤ n) → ∀ (H : Heap) (locs : List Loc), va_P D vwCl [(ad 0, .inr (0, [.ref (ad 1), .ref (ad 2), .int (nI n), .ref (ad 3), .ref (ad 4), .ref (ad 5), .ref (ad 6), .int d, .long hs])), (ad 1, .inr (1, [])), (ad 2, .inr (2, [])), (ad 3, .inl (cI, 6, .inl fi)), (ad 4, .inl (cI, 6, .inl fo)), (ad 5, .inl (cI, 36, .inl fw)), (ad 6, .inl (cD, 36, .inr (.inr (.inr (.inl (colsF fo n (rowsF fi n fe n) i2))))))] H → va_D A [(ad 0, .inr (0, [.ref (ad 1), .ref (ad 2), .int (nI n), .ref (ad 3), .ref (ad 4), .ref (ad 5), .ref (ad 6), .int d, .long hs])), (ad 1, .inr (1, [])), (ad 2, .inr (2, [])), (ad 3, .inl (cI, 6, .inl fi)), (ad 4, .inl (cI, 6, .inl fo)), (ad 5, .inl (cI, 36, .inl fw)), (ad 6, .inl (cD, 36, .inr (.inr (.inr (.inl (colsF fo n (rowsF fi n fe n) i2))))))] → va_S A s.heap H locs → ∀ ls : Array Slot, lv_has ls 2 [(1, .int (nI i2)), (0, .ref (ad 0))] → W p l e ({ frames := 3, cells := 0, slots := 0, locals := 75 } : Room) s m ([.ref (ad 0)] : List Value).toArray below meth c H locs 0 0 (MQ below (qV D [(ad 0, .inr (0, [.ref (ad 1), .ref (ad 2), .int (nI n), .ref (ad 3), .ref (ad 4), .ref (ad 5), .ref (ad 6), .int (d + 1), .long hs])), (ad 1, .inr (1, [])), (ad 2, .inr (2, [])), (ad 3, .inl (cI, 6, .inl fi)), (ad 4, .inl (cI, 6, .inl fo)), (ad 5, .inl (cI, 36, .inl fw)), (ad 6, .inl (cD, 36, .inr (.inr (.inr (.inl (roundF fi fo n fe))))))] A) ([.ref (ad 0)] : List Value).toArray s 0 0 A) (F0 m 29 ls []) := by
          intro N
          induction N with
          | zero => intro i2 hN; exact absurd hN (Nat.not_lt_zero _)
          | succ N ih29 =>
            intro i2 hN29 hi2 H locs hP hD hS ls hl
            refine lv_iload_n hx hb dX1_round_29 rfl (lv_at hl 0 rfl) ?_
            refine lv_aload_n hx hb dX1_round_30 rfl (lv_at hl 1 rfl) ?_
            refine va_get (D := D) (ci := 0) (v := .int (nI n)) (C := RX1) (T := TX1) (N := 9) hx hb hts in_X1 hown hK hP 0 rfl rfl 2 (by decide) (hts _ q103) (fun _ h9 => h9) rfl dX1_round_31 ?_
            refine w_icmp_geN hx hb i2 n (by omega) (by omega) (tgt := 54) dX1_round_34 (by decide) (fun c_4 => ?_) (fun c_4 => ?_)
            · obtain rfl : n = i2 := by omega
              refine lv_aload_n hx hb dX1_round_54 rfl (lv_at hl 1 rfl) ?_
              refine lv_dup hx hb dX1_round_55 rfl ?_
              refine va_get (D := D) (ci := 0) (v := .int d) (C := RX1) (T := TX1) (N := 9) hx hb hts in_X1 hown hK hP 0 rfl rfl 7 (by decide) (hts _ q117) (fun _ h9 => h9) rfl dX1_round_56 ?_
              refine lv_iconst (v := 1) hx hb dX1_round_59 (by decide) ?_
              refine lv_iadd hx hb dX1_round_60 ?_
              refine va_put (D := D) (ci := 0) (v := .int (d + 1)) (ty := .int) (C := RX1) (T := TX1) (N := 9) hx hb hts in_X1 tyX1 tyX1_ok nmX1 hown hK hP hD hS 0 rfl rfl 7 (by decide) (hts _ q117) (fun _ h9 => h9) rfl (by decide +kernel) rfl rfl (Nat.le_of_ble_eq_true rfl) dX1_round_61 (fun H locs hP hD hS => ?_)
              have hP : va_P D vwCl [(ad 0, .inr (0, [.ref (ad 1), .ref (ad 2), .int (nI n), .ref (ad 3), .ref (ad 4), .ref (ad 5), .ref (ad 6), .int (d + 1), .long hs])), (ad 1, .inr (1, [])), (ad 2, .inr (2, [])), (ad 3, .inl (cI, 6, .inl fi)), (ad 4, .inl (cI, 6, .inl fo)), (ad 5, .inl (cI, 36, .inl fw)), (ad 6, .inl (cD, 36, .inr (.inr (.inr (.inl (colsF fo n (rowsF fi n fe n) n))))))] H := hP
              have hD : va_D A [(ad 0, .inr (0, [.ref (ad 1), .ref (ad 2), .int (nI n), .ref (ad 3), .ref (ad 4), .ref (ad 5), .ref (ad 6), .int (d + 1), .long hs])), (ad 1, .inr (1, [])), (ad 2, .inr (2, [])), (ad 3, .inl (cI, 6, .inl fi)), (ad 4, .inl (cI, 6, .inl fo)), (ad 5, .inl (cI, 36, .inl fw)), (ad 6, .inl (cD, 36, .inr (.inr (.inr (.inl (colsF fo n (rowsF fi n fe n) n))))))] := hD
              exact es_v hx hb hr hlocks hP hD hS dX1_round_64
            · refine lv_aload_n hx hb dX1_round_37 rfl (lv_at hl 1 rfl) ?_
              refine va_get (D := D) (ci := 0) (v := .ref (ad 2)) (C := RX1) (T := TX1) (N := 9) hx hb hts in_X1 hown hK hP 0 rfl rfl 1 (by decide) (hts _ q99) (fun _ h9 => h9) rfl dX1_round_38 ?_
              refine lv_aload_n hx hb dX1_round_41 rfl (lv_at hl 1 rfl) ?_
              refine lv_iload_n hx hb dX1_round_42 rfl (lv_at hl 0 rfl) ?_
              refine ks5_v (wc := [(ad 0, .inr (0, [.ref (ad 1), .ref (ad 2), .int (nI n), .ref (ad 3), .ref (ad 4), .ref (ad 5), .ref (ad 6), .int d, .long hs])), (ad 1, .inr (1, [])), (ad 2, .inr (2, [])), (ad 3, .inl (cI, 6, .inl fi)), (ad 4, .inl (cI, 6, .inl fo)), (ad 5, .inl (cI, 36, .inl fw)), (ad 6, .inl (cD, 36, .inr (.inr (.inr (.inl (colsF fo n (rowsF fi n fe n) i2))))))]) (wr := []) (w1 := [(ad 0, .inr (0, [.ref (ad 1), .ref (ad 2), .int (nI n), .ref (ad 3), .ref (ad 4), .ref (ad 5), .ref (ad 6), .int d, .long hs])), (ad 1, .inr (1, [])), (ad 2, .inr (2, [])), (ad 3, .inl (cI, 6, .inl fi)), (ad 4, .inl (cI, 6, .inl fo)), (ad 5, .inl (cI, 36, .inl fw)), (ad 6, .inl (cD, 36, .inr (.inr (.inr (.inl (colF fo n (colsF fo n (rowsF fi n fe n) i2) i2))))))]) (w_runD (n := 2) (hK.1 2 _ rfl).2 ⟨hx, hb, hml, hown, hts⟩ (mX_applyC l D cI cD cL tR tC H.size ad n fi fo fw (colsF fo n (rowsF fi n fe n) i2) d hs i2 (by first | assumption | omega) (by first | assumption | omega) (hok.2 i2 (by omega))) (As := [.ref (ad 0), .int (nI i2)]) (rest := []) (lw_meth q541) rfl rfl rfl (hts _ q534) (xt_coldf hE.T) (hts _ q539) (hts _ q916) (by decide +kernel) ⟨Nat.le_of_ble_eq_true rfl, Nat.le_of_ble_eq_true rfl⟩ (pV_ (wc := [(ad 0, .inr (0, [.ref (ad 1), .ref (ad 2), .int (nI n), .ref (ad 3), .ref (ad 4), .ref (ad 5), .ref (ad 6), .int d, .long hs])), (ad 1, .inr (1, [])), (ad 2, .inr (2, [])), (ad 3, .inl (cI, 6, .inl fi)), (ad 4, .inl (cI, 6, .inl fo)), (ad 5, .inl (cI, 36, .inl fw)), (ad 6, .inl (cD, 36, .inr (.inr (.inr (.inl (colsF fo n (rowsF fi n fe n) i2))))))]) (va_recv hK hP (ci := 2) (q0 := 2) rfl rfl) hK hP hD hS hA hE [0, 1, 2, 3, 4, 5, 6] rfl rfl rfl) rfl rfl hl.1 rfl (lv_room (Nat.le_of_ble_eq_true rfl)) dX1_round_43 ⟨(Nat.le_of_ble_eq_true rfl), (Nat.le_of_ble_eq_true rfl)⟩) hP hD hS hA [0, 1, 2, 3, 4, 5, 6] [] rfl rfl rfl (by decide) (fun H locs hP hD hS => ?_)
              have hP : va_P D vwCl [(ad 0, .inr (0, [.ref (ad 1), .ref (ad 2), .int (nI n), .ref (ad 3), .ref (ad 4), .ref (ad 5), .ref (ad 6), .int d, .long hs])), (ad 1, .inr (1, [])), (ad 2, .inr (2, [])), (ad 3, .inl (cI, 6, .inl fi)), (ad 4, .inl (cI, 6, .inl fo)), (ad 5, .inl (cI, 36, .inl fw)), (ad 6, .inl (cD, 36, .inr (.inr (.inr (.inl (colF fo n (colsF fo n (rowsF fi n fe n) i2) i2))))))] H := hP
              have hD : va_D A [(ad 0, .inr (0, [.ref (ad 1), .ref (ad 2), .int (nI n), .ref (ad 3), .ref (ad 4), .ref (ad 5), .ref (ad 6), .int d, .long hs])), (ad 1, .inr (1, [])), (ad 2, .inr (2, [])), (ad 3, .inl (cI, 6, .inl fi)), (ad 4, .inl (cI, 6, .inl fo)), (ad 5, .inl (cI, 36, .inl fw)), (ad 6, .inl (cD, 36, .inr (.inr (.inr (.inl (colF fo n (colsF fo n (rowsF fi n fe n) i2) i2))))))] := hD
              refine w_iinc hx hb i2 (lv' := [(1, .int (nI (i2 + 1))), (0, .ref (ad 0))]) dX1_round_48 hl (k := 0) rfl (Nat.le_of_ble_eq_true rfl) rfl (fun ls hl => ?_)
              refine lv_goto (tgt := 29) hx hb dX1_round_51 (by decide) ?_
              exact ih29 (i2 + 1) (by omega) (by omega) H locs hP hD hS ls (lv_sub hl [0, 1] rfl)
        exact L_3 ((n - 0) + 1) 0 (Nat.lt_succ_self _) (by omega) H locs hP hD hS ls (lv_sub hl [0, 1] rfl)
      · refine lv_aload_n hx hb dX1_round_10 rfl (lv_at hl 1 rfl) ?_
        refine va_get (D := D) (ci := 0) (v := .ref (ad 1)) (C := RX1) (T := TX1) (N := 9) hx hb hts in_X1 hown hK hP 0 rfl rfl 0 (by decide) (hts _ q98) (fun _ h9 => h9) rfl dX1_round_11 ?_
        refine lv_aload_n hx hb dX1_round_14 rfl (lv_at hl 1 rfl) ?_
        refine lv_iload_n hx hb dX1_round_15 rfl (lv_at hl 0 rfl) ?_
        refine ks5_v (wc := [(ad 0, .inr (0, [.ref (ad 1), .ref (ad 2), .int (nI n), .ref (ad 3), .ref (ad 4), .ref (ad 5), .ref (ad 6), .int d, .long hs])), (ad 1, .inr (1, [])), (ad 2, .inr (2, [])), (ad 3, .inl (cI, 6, .inl fi)), (ad 4, .inl (cI, 6, .inl fo)), (ad 5, .inl (cI, 36, .inl fw)), (ad 6, .inl (cD, 36, .inr (.inr (.inr (.inl (rowsF fi n fe i))))))]) (wr := []) (w1 := [(ad 0, .inr (0, [.ref (ad 1), .ref (ad 2), .int (nI n), .ref (ad 3), .ref (ad 4), .ref (ad 5), .ref (ad 6), .int d, .long hs])), (ad 1, .inr (1, [])), (ad 2, .inr (2, [])), (ad 3, .inl (cI, 6, .inl fi)), (ad 4, .inl (cI, 6, .inl fo)), (ad 5, .inl (cI, 36, .inl fw)), (ad 6, .inl (cD, 36, .inr (.inr (.inr (.inl (rowF fi n (rowsF fi n fe i) i))))))]) (w_runD (n := 2) (hK.1 1 _ rfl).2 ⟨hx, hb, hml, hown, hts⟩ (mX_applyR l D cI cD cL tR tC H.size ad n fi fo fw (rowsF fi n fe i) d hs i (by first | assumption | omega) (by first | assumption | omega) (hok.1 i (by omega))) (As := [.ref (ad 0), .int (nI i)]) (rest := []) (lw_meth q541) rfl rfl rfl (hts _ q534) (xt_rowdf hE.T) (hts _ q539) (hts _ q916) (by decide +kernel) ⟨Nat.le_of_ble_eq_true rfl, Nat.le_of_ble_eq_true rfl⟩ (pV_ (wc := [(ad 0, .inr (0, [.ref (ad 1), .ref (ad 2), .int (nI n), .ref (ad 3), .ref (ad 4), .ref (ad 5), .ref (ad 6), .int d, .long hs])), (ad 1, .inr (1, [])), (ad 2, .inr (2, [])), (ad 3, .inl (cI, 6, .inl fi)), (ad 4, .inl (cI, 6, .inl fo)), (ad 5, .inl (cI, 36, .inl fw)), (ad 6, .inl (cD, 36, .inr (.inr (.inr (.inl (rowsF fi n fe i))))))]) (va_recv hK hP (ci := 1) (q0 := 1) rfl rfl) hK hP hD hS hA hE [0, 1, 2, 3, 4, 5, 6] rfl rfl rfl) rfl rfl hl.1 rfl (lv_room (Nat.le_of_ble_eq_true rfl)) dX1_round_16 ⟨(Nat.le_of_ble_eq_true rfl), (Nat.le_of_ble_eq_true rfl)⟩) hP hD hS hA [0, 1, 2, 3, 4, 5, 6] [] rfl rfl rfl (by decide) (fun H locs hP hD hS => ?_)
        have hP : va_P D vwCl [(ad 0, .inr (0, [.ref (ad 1), .ref (ad 2), .int (nI n), .ref (ad 3), .ref (ad 4), .ref (ad 5), .ref (ad 6), .int d, .long hs])), (ad 1, .inr (1, [])), (ad 2, .inr (2, [])), (ad 3, .inl (cI, 6, .inl fi)), (ad 4, .inl (cI, 6, .inl fo)), (ad 5, .inl (cI, 36, .inl fw)), (ad 6, .inl (cD, 36, .inr (.inr (.inr (.inl (rowF fi n (rowsF fi n fe i) i))))))] H := hP
        have hD : va_D A [(ad 0, .inr (0, [.ref (ad 1), .ref (ad 2), .int (nI n), .ref (ad 3), .ref (ad 4), .ref (ad 5), .ref (ad 6), .int d, .long hs])), (ad 1, .inr (1, [])), (ad 2, .inr (2, [])), (ad 3, .inl (cI, 6, .inl fi)), (ad 4, .inl (cI, 6, .inl fo)), (ad 5, .inl (cI, 36, .inl fw)), (ad 6, .inl (cD, 36, .inr (.inr (.inr (.inl (rowF fi n (rowsF fi n fe i) i))))))] := hD
        refine w_iinc hx hb i (lv' := [(1, .int (nI (i + 1))), (0, .ref (ad 0))]) dX1_round_21 hl (k := 0) rfl (Nat.le_of_ble_eq_true rfl) rfl (fun ls hl => ?_)
        refine lv_goto (tgt := 2) hx hb dX1_round_24 (by decide) ?_
        exact ih2 (i + 1) (by omega) (by omega) H locs hP hD hS ls (lv_sub hl [0, 1] rfl)
  exact L_1 ((n - 0) + 1) 0 (Nat.lt_succ_self _) (by omega) s.heap [] hP hD hS ls (lv_sub hl [0, 1] rfl)

set_option maxHeartbeats 4000000 in
set_option maxRecDepth 100000 in
theorem mX_iterate (l : Launch) (D : va_G) (cI cD cL : ClassId) (tR tC sz : Nat) (ad : Nat → Nat) (n : Nat) (fi : Nat → Int32) (fo : Nat → Int32) (fw : Nat → Int32) (fe : Nat → UInt64) (d : Int32) (hs : Int64) (q : Nat) (I : (Nat → UInt64) → Prop) (hn : n ≤ 6) (hq : q ≤ 50) (hv : decide (1 ≤ nI q ∧ nI q ≤ 50) = true) (hI0 : I fe) (hIr : ∀ e, I e → okRound fi fo n e) (hIs : ∀ e, I e → I (roundF fi fo n e)) : Met l yX1_iterate (ws_ yX1_iterate cX1_iterate 3 (some .int)) ({ frames := 4, cells := 0, slots := 0, locals := 96 } : Room) (pX [.ref (ad 0), .int (nI q)] D [(ad 0, .inr (0, [.ref (ad 1), .ref (ad 2), .int (nI n), .ref (ad 3), .ref (ad 4), .ref (ad 5), .ref (ad 6), .int d, .long hs])), (ad 1, .inr (1, [])), (ad 2, .inr (2, [])), (ad 3, .inl (cI, 6, .inl fi)), (ad 4, .inl (cI, 6, .inl fo)), (ad 5, .inl (cI, 36, .inl fw)), (ad 6, .inl (cD, 36, .inr (.inr (.inr (.inl fe)))))] cI cD cL tR tC sz) (qI D (d + nI q) [(ad 0, .inr (0, [.ref (ad 1), .ref (ad 2), .int (nI n), .ref (ad 3), .ref (ad 4), .ref (ad 5), .ref (ad 6), .int (d + nI q), .long hs])), (ad 1, .inr (1, [])), (ad 2, .inr (2, [])), (ad 3, .inl (cI, 6, .inl fi)), (ad 4, .inl (cI, 6, .inl fo)), (ad 5, .inl (cI, 36, .inl fw)), (ad 6, .inl (cD, 36, .inr (.inr (.inr (.inl (iterF fi fo n fe q))))))] (va_A [(ad 0, .inr (0, [.ref (ad 1), .ref (ad 2), .int (nI n), .ref (ad 3), .ref (ad 4), .ref (ad 5), .ref (ad 6), .int d, .long hs])), (ad 1, .inr (1, [])), (ad 2, .inr (2, [])), (ad 3, .inl (cI, 6, .inl fi)), (ad 4, .inl (cI, 6, .inl fo)), (ad 5, .inl (cI, 36, .inl fw)), (ad 6, .inl (cD, 36, .inr (.inr (.inr (.inl fe)))))] sz)) 0 0 (va_A [(ad 0, .inr (0, [.ref (ad 1), .ref (ad 2), .int (nI n), .ref (ad 3), .ref (ad 4), .ref (ad 5), .ref (ad 6), .int d, .long hs])), (ad 1, .inr (1, [])), (ad 2, .inr (2, [])), (ad 3, .inl (cI, 6, .inl fi)), (ad 4, .inl (cI, 6, .inl fo)), (ad 5, .inl (cI, 36, .inl fw)), (ad 6, .inl (cD, 36, .inr (.inr (.inr (.inl fe)))))] sz) := by
  refine mS_ (Qf := qI D (d + nI q) [(ad 0, .inr (0, [.ref (ad 1), .ref (ad 2), .int (nI n), .ref (ad 3), .ref (ad 4), .ref (ad 5), .ref (ad 6), .int (d + nI q), .long hs])), (ad 1, .inr (1, [])), (ad 2, .inr (2, [])), (ad 3, .inl (cI, 6, .inl fi)), (ad 4, .inl (cI, 6, .inl fo)), (ad 5, .inl (cI, 36, .inl fw)), (ad 6, .inl (cD, 36, .inr (.inr (.inr (.inl (iterF fi fo n fe q))))))]) (by decide +kernel) (Nat.le_of_ble_eq_true rfl) ?_
  intro p e s m below meth c A hx hb hr hml hown hts hK hA hE hlocks hin hsz hP hD hS ls hl
  have hown : s.vm.findClass RX1 = some m.cls := hown
  have hl : lv_has ls 3 [(0, .ref (ad 0)), (1, .int (nI q))] := hl
  refine lv_iload_n hx hb dX1_iterate_0 rfl (lv_at hl 1 rfl) ?_
  refine lv_iconst (v := 1) hx hb dX1_iterate_1 (by decide) ?_
  refine lv_bipush (v := 50) hx hb dX1_iterate_2 (by decide) ?_
  refine kr_i (va_runS (As := [.int (nI q), .int 1, .int 50]) (rest := []) ⟨hx, hb, hml, hown, hts⟩ (mX_inRange l D cI cD cL tR tC s.heap.size (nI q) 1 50) (va_cwS 3 hts (lw_S q330 q331 q50 q332) rfl rfl rfl (by decide +kernel) ⟨Nat.le_of_ble_eq_true rfl, Nat.le_of_ble_eq_true rfl⟩) (pS_ (wc := []) hK hP hD hS hA hE [] rfl rfl rfl) rfl rfl hl.1 rfl (lv_room (Nat.le_of_ble_eq_true rfl)) dX1_iterate_4 ⟨(Nat.le_of_ble_eq_true rfl), (Nat.le_of_ble_eq_true rfl)⟩) ?_
  refine kr_v (va_runS (As := [.int (bI (decide (1 ≤ (nI q) ∧ (nI q) ≤ 50)))]) (rest := []) ⟨hx, hb, hml, hown, hts⟩ (mX_require l D cI cD cL tR tC s.heap.size (decide (1 ≤ (nI q) ∧ (nI q) ≤ 50)) hv) (va_cwS 1 hts (lw_S q333 q334 q50 q335) rfl rfl rfl (by decide +kernel) ⟨Nat.le_of_ble_eq_true rfl, Nat.le_of_ble_eq_true rfl⟩) (pS_ (wc := []) hK hP hD hS hA hE [] rfl rfl rfl) rfl rfl hl.1 rfl (lv_room (Nat.le_of_ble_eq_true rfl)) dX1_iterate_7 ⟨(Nat.le_of_ble_eq_true rfl), (Nat.le_of_ble_eq_true rfl)⟩) ?_
  refine lv_iconst (v := 0) hx hb dX1_iterate_10 (by decide) ?_
  refine lv_istore_n (lv' := [(2, .int 0), (0, .ref (ad 0)), (1, .int (nI q))]) hx hb dX1_iterate_11 rfl hl (Nat.le_of_ble_eq_true rfl) rfl (fun ls hl => ?_)
  have L_1 : ∀ (N : Nat) (i : Nat) (dd : Int32), q - i < N → (i ≤ q) → (I (iterF fi fo n fe i)) → (dd = d + nI i) → ∀ (H : Heap) (locs : List Loc), va_P D vwCl [(ad 0, .inr (0, [.ref (ad 1), .ref (ad 2), .int (nI n), .ref (ad 3), .ref (ad 4), .ref (ad 5), .ref (ad 6), .int dd, .long hs])), (ad 1, .inr (1, [])), (ad 2, .inr (2, [])), (ad 3, .inl (cI, 6, .inl fi)), (ad 4, .inl (cI, 6, .inl fo)), (ad 5, .inl (cI, 36, .inl fw)), (ad 6, .inl (cD, 36, .inr (.inr (.inr (.inl (iterF fi fo n fe i))))))] H → va_D A [(ad 0, .inr (0, [.ref (ad 1), .ref (ad 2), .int (nI n), .ref (ad 3), .ref (ad 4), .ref (ad 5), .ref (ad 6), .int dd, .long hs])), (ad 1, .inr (1, [])), (ad 2, .inr (2, [])), (ad 3, .inl (cI, 6, .inl fi)), (ad 4, .inl (cI, 6, .inl fo)), (ad 5, .inl (cI, 36, .inl fw)), (ad 6, .inl (cD, 36, .inr (.inr (.inr (.inl (iterF fi fo n fe i))))))] → va_S A s.heap H locs → ∀ ls : Array Slot, lv_has ls 3 [(2, .int (nI i)), (0, .ref (ad 0)), (1, .int (nI q))] → W p l e ({ frames := 4, cells := 0, slots := 0, locals := 96 } : Room) s m ([.ref (ad 0), .int (nI q)] : List Value).toArray below meth c H locs 0 0 (MQ below (qI D (d + nI q) [(ad 0, .inr (0, [.ref (ad 1), .ref (ad 2), .int (nI n), .ref (ad 3), .ref (ad 4), .ref (ad 5), .ref (ad 6), .int (d + nI q), .long hs])), (ad 1, .inr (1, [])), (ad 2, .inr (2, [])), (ad 3, .inl (cI, 6, .inl fi)), (ad 4, .inl (cI, 6, .inl fo)), (ad 5, .inl (cI, 36, .inl fw)), (ad 6, .inl (cD, 36, .inr (.inr (.inr (.inl (iterF fi fo n fe q))))))] A) ([.ref (ad 0), .int (nI q)] : List Value).toArray s 0 0 A) (F0 m 12 ls []) := by
    intro N
    induction N with
    | zero => intro i dd hN; exact absurd hN (Nat.not_lt_zero _)
    | succ N ih12 =>
      intro i dd hN12 hi hI hdd H locs hP hD hS ls hl
      refine lv_iload_n hx hb dX1_iterate_12 rfl (lv_at hl 0 rfl) ?_
      refine lv_iload_n hx hb dX1_iterate_13 rfl (lv_at hl 2 rfl) ?_
      refine w_icmp_geN hx hb i q (by omega) (by omega) (tgt := 27) dX1_iterate_14 (by decide) (fun c_2 => ?_) (fun c_2 => ?_)
      · obtain rfl : q = i := by omega
        subst hdd
        refine lv_aload_n hx hb dX1_iterate_27 rfl (lv_at hl 1 rfl) ?_
        refine va_get (D := D) (ci := 0) (v := .int (d + nI q)) (C := RX1) (T := TX1) (N := 9) hx hb hts in_X1 hown hK hP 0 rfl rfl 7 (by decide) (hts _ q117) (fun _ h9 => h9) rfl dX1_iterate_28 ?_
        exact es_i hx hb hr hlocks hP hD hS rfl dX1_iterate_31
      · refine lv_aload_n hx hb dX1_iterate_17 rfl (lv_at hl 1 rfl) ?_
        refine ks_v (wc := [(ad 0, .inr (0, [.ref (ad 1), .ref (ad 2), .int (nI n), .ref (ad 3), .ref (ad 4), .ref (ad 5), .ref (ad 6), .int dd, .long hs])), (ad 1, .inr (1, [])), (ad 2, .inr (2, [])), (ad 3, .inl (cI, 6, .inl fi)), (ad 4, .inl (cI, 6, .inl fo)), (ad 5, .inl (cI, 36, .inl fw)), (ad 6, .inl (cD, 36, .inr (.inr (.inr (.inl (iterF fi fo n fe i))))))]) (wr := []) (w1 := [(ad 0, .inr (0, [.ref (ad 1), .ref (ad 2), .int (nI n), .ref (ad 3), .ref (ad 4), .ref (ad 5), .ref (ad 6), .int (dd + 1), .long hs])), (ad 1, .inr (1, [])), (ad 2, .inr (2, [])), (ad 3, .inl (cI, 6, .inl fi)), (ad 4, .inl (cI, 6, .inl fo)), (ad 5, .inl (cI, 36, .inl fw)), (ad 6, .inl (cD, 36, .inr (.inr (.inr (.inl (roundF fi fo n (iterF fi fo n fe i)))))))]) (va_runV (As := []) (rest := []) ⟨hx, hb, hml, hown, hts⟩ (mX_round l D cI cD cL tR tC H.size ad n fi fo fw (iterF fi fo n fe i) dd hs (by first | assumption | omega) (hIr _ hI)) (cwV 0 hts (lw_V q529 q531 qs21 q50 q532) rfl rfl rfl (by decide +kernel) ⟨Nat.le_of_ble_eq_true rfl, Nat.le_of_ble_eq_true rfl⟩) (pV_ (wc := [(ad 0, .inr (0, [.ref (ad 1), .ref (ad 2), .int (nI n), .ref (ad 3), .ref (ad 4), .ref (ad 5), .ref (ad 6), .int dd, .long hs])), (ad 1, .inr (1, [])), (ad 2, .inr (2, [])), (ad 3, .inl (cI, 6, .inl fi)), (ad 4, .inl (cI, 6, .inl fo)), (ad 5, .inl (cI, 36, .inl fw)), (ad 6, .inl (cD, 36, .inr (.inr (.inr (.inl (iterF fi fo n fe i))))))]) (va_recv hK hP (ci := 0) (q0 := 0) rfl rfl) hK hP hD hS hA hE [0, 1, 2, 3, 4, 5, 6] rfl rfl rfl) rfl rfl hl.1 rfl (lv_room (Nat.le_of_ble_eq_true rfl)) dX1_iterate_18 ⟨(Nat.le_of_ble_eq_true rfl), (Nat.le_of_ble_eq_true rfl)⟩) hP hD hS hA [0, 1, 2, 3, 4, 5, 6] [] rfl rfl rfl (by decide) (fun H locs hP hD hS => ?_)
        have hP : va_P D vwCl [(ad 0, .inr (0, [.ref (ad 1), .ref (ad 2), .int (nI n), .ref (ad 3), .ref (ad 4), .ref (ad 5), .ref (ad 6), .int (dd + 1), .long hs])), (ad 1, .inr (1, [])), (ad 2, .inr (2, [])), (ad 3, .inl (cI, 6, .inl fi)), (ad 4, .inl (cI, 6, .inl fo)), (ad 5, .inl (cI, 36, .inl fw)), (ad 6, .inl (cD, 36, .inr (.inr (.inr (.inl (roundF fi fo n (iterF fi fo n fe i)))))))] H := hP
        have hD : va_D A [(ad 0, .inr (0, [.ref (ad 1), .ref (ad 2), .int (nI n), .ref (ad 3), .ref (ad 4), .ref (ad 5), .ref (ad 6), .int (dd + 1), .long hs])), (ad 1, .inr (1, [])), (ad 2, .inr (2, [])), (ad 3, .inl (cI, 6, .inl fi)), (ad 4, .inl (cI, 6, .inl fo)), (ad 5, .inl (cI, 36, .inl fw)), (ad 6, .inl (cD, 36, .inr (.inr (.inr (.inl (roundF fi fo n (iterF fi fo n fe i)))))))] := hD
        refine w_iinc hx hb i (lv' := [(2, .int (nI (i + 1))), (0, .ref (ad 0)), (1, .int (nI q))]) dX1_iterate_21 hl (k := 0) rfl (Nat.le_of_ble_eq_true rfl) rfl (fun ls hl => ?_)
        refine lv_goto (tgt := 12) hx hb dX1_iterate_24 (by decide) ?_
        exact ih12 (i + 1) (dd + 1) (by omega) (by omega) (hIs _ hI) (by rw [hdd]; exact nI_d1 d i) H locs hP hD hS ls (lv_sub hl [0, 1, 2] rfl)
  exact L_1 ((q - 0) + 1) 0 d (Nat.lt_succ_self _) (by omega) hI0 (nI_d0 d) s.heap [] hP hD hS ls (lv_sub hl [0, 1, 2] rfl)

set_option maxHeartbeats 4000000 in
set_option maxRecDepth 100000 in
theorem tX_iterate (l : Launch) (D : va_G) (cI cD cL : ClassId) (tR tC sz : Nat) (ad : Nat → Nat) (n : Nat) (fi : Nat → Int32) (fo : Nat → Int32) (fw : Nat → Int32) (fe : Nat → UInt64) (d : Int32) (hs : Int64) (v : Int32) (hv : ¬ decide (1 ≤ v ∧ v ≤ 50) = true) (hfl : l.stackTraces = false) : xThr l yX1_iterate (ws_ yX1_iterate cX1_iterate 3 (some .int)) ({ frames := 7, cells := 1, slots := 6, locals := 101 } : Room) (pX [.ref (ad 0), .int v] D [(ad 0, .inr (0, [.ref (ad 1), .ref (ad 2), .int (nI n), .ref (ad 3), .ref (ad 4), .ref (ad 5), .ref (ad 6), .int d, .long hs])), (ad 1, .inr (1, [])), (ad 2, .inr (2, [])), (ad 3, .inl (cI, 6, .inl fi)), (ad 4, .inl (cI, 6, .inl fo)), (ad 5, .inl (cI, 36, .inl fw)), (ad 6, .inl (cD, 36, .inr (.inr (.inr (.inl fe)))))] cI cD cL tR tC sz) "java/lang/IllegalArgumentException" := by
  refine mT_ (by decide +kernel) (Nat.le_of_ble_eq_true rfl) ?_
  intro p e s m below meth c A hx hb hr hml hown hts hK hA hE hlocks hin hsz hP hD hS hout ls hl
  have hown : s.vm.findClass RX1 = some m.cls := hown
  have hl : lv_has ls 3 [(0, .ref (ad 0)), (1, .int v)] := hl
  refine lv_iload_n hx hb dX1_iterate_0 rfl (lv_at hl 1 rfl) ?_
  refine lv_iconst (v := 1) hx hb dX1_iterate_1 (by decide) ?_
  refine lv_bipush (v := 50) hx hb dX1_iterate_2 (by decide) ?_
  refine kr_i (va_runS (As := [.int v, .int 1, .int 50]) (rest := []) ⟨hx, hb, hml, hown, hts⟩ (mX_inRange l D cI cD cL tR tC s.heap.size v 1 50) (va_cwS 3 hts (lw_S q330 q331 q50 q332) rfl rfl rfl (by decide +kernel) ⟨Nat.le_of_ble_eq_true rfl, Nat.le_of_ble_eq_true rfl⟩) (pS_ (wc := []) hK hP hD hS hA hE [] rfl rfl rfl) rfl rfl hl.1 rfl (lv_room (Nat.le_of_ble_eq_true rfl)) dX1_iterate_4 ⟨(Nat.le_of_ble_eq_true rfl), (Nat.le_of_ble_eq_true rfl)⟩) ?_
  exact kx_out (vx_runS (As := [.int (bI (decide (1 ≤ v ∧ v ≤ 50)))]) (rest := []) ⟨hx, hb, hml, hown, hts⟩ (tX_require l D cI cD cL tR tC s.heap.size (decide (1 ≤ v ∧ v ≤ 50)) hv (by first | assumption | omega)) (va_cwS 1 hts (lw_S q333 q334 q50 q335) rfl rfl rfl (by decide +kernel) ⟨Nat.le_of_ble_eq_true rfl, Nat.le_of_ble_eq_true rfl⟩) (pS_ (wc := []) hK hP hD hS hA hE [] rfl rfl rfl) rfl rfl hl.1 rfl (lv_room (Nat.le_of_ble_eq_true rfl)) dX1_iterate_7 ⟨(Nat.le_of_ble_eq_true rfl), (Nat.le_of_ble_eq_true rfl)⟩) hS hout hlocks rfl rfl

set_option maxHeartbeats 4000000 in
set_option maxRecDepth 100000 in
theorem mX_distance (l : Launch) (D : va_G) (cI cD cL : ClassId) (tR tC sz : Nat) (x : UInt64) (y : UInt64) (hok : vf_n64 (far x y)) : Met l yX1_distance (ws_ yX1_distance cX1_distance 4 (some .double)) ({ frames := 0, cells := 0, slots := 0, locals := 0 } : Room) (pX [.double x, .double y] D [] cI cD cL tR tC sz) (rD (far x y)) 0 0 (fun _ => False) := by
  refine mR_ (by decide +kernel) (Nat.le_of_ble_eq_true rfl) ?_
  intro p e s m below meth c A hx hb hr hml hown hts hK hA hE hlocks hin hsz hP hD hS ls hl
  have hown : s.vm.findClass RX1 = some m.cls := hown
  have hl : lv_has ls 4 [(0, .double x), (2, .double y)] := hl
  refine lv_dload_n hx hb dX1_distance_0 rfl (lv_at hl 0 rfl) ?_
  refine lv_dload_n hx hb dX1_distance_1 rfl (lv_at hl 1 rfl) ?_
  refine lv_dcmp hx hb dX1_distance_2 ?_
  refine w_if_leD hx hb x y (tgt := 12) dX1_distance_3 (by decide) (fun c_1 => ?_) (fun c_1 => ?_)
  · refine lv_dload_n hx hb dX1_distance_12 rfl (lv_at hl 1 rfl) ?_
    refine lv_dload_n hx hb dX1_distance_13 rfl (lv_at hl 0 rfl) ?_
    refine lv_dsub hx hb dX1_distance_14 (by unfold far at hok; rw [if_neg (by assumption)] at hok; exact hok) ?_
    exact er_d hx hb hr hlocks (by unfold far; first | rw [if_pos (by assumption)] | rw [if_neg (by assumption)]) dX1_distance_15
  · refine lv_dload_n hx hb dX1_distance_6 rfl (lv_at hl 0 rfl) ?_
    refine lv_dload_n hx hb dX1_distance_7 rfl (lv_at hl 1 rfl) ?_
    refine lv_dsub hx hb dX1_distance_8 (by unfold far at hok; rw [if_pos (by assumption)] at hok; exact hok) ?_
    refine lv_goto (tgt := 15) hx hb dX1_distance_9 (by decide) ?_
    exact er_d hx hb hr hlocks (by unfold far; first | rw [if_pos (by assumption)] | rw [if_neg (by assumption)]) dX1_distance_15

set_option maxHeartbeats 4000000 in
set_option maxRecDepth 100000 in
theorem mX_misfitNow (l : Launch) (D : va_G) (cI cD cL : ClassId) (tR tC sz : Nat) (ad : Nat → Nat) (n : Nat) (fi : Nat → Int32) (fo : Nat → Int32) (fw : Nat → Int32) (fe : Nat → UInt64) (d : Int32) (hs : Int64) (hn : n ≤ 6) (hok : okMis fi fo n fe) : Met l yX1_misfitNow (ws_ yX1_misfitNow cX1_misfitNow 8 (some .double)) ({ frames := 2, cells := 0, slots := 0, locals := 48 } : Room) (pX [.ref (ad 0)] D [(ad 0, .inr (0, [.ref (ad 1), .ref (ad 2), .int (nI n), .ref (ad 3), .ref (ad 4), .ref (ad 5), .ref (ad 6), .int d, .long hs])), (ad 1, .inr (1, [])), (ad 2, .inr (2, [])), (ad 3, .inl (cI, 6, .inl fi)), (ad 4, .inl (cI, 6, .inl fo)), (ad 5, .inl (cI, 36, .inl fw)), (ad 6, .inl (cD, 36, .inr (.inr (.inr (.inl fe)))))] cI cD cL tR tC sz) (rD (misF fi fo n fe n)) 0 0 (fun _ => False) := by
  refine mR_ (by decide +kernel) (Nat.le_of_ble_eq_true rfl) ?_
  intro p e s m below meth c A hx hb hr hml hown hts hK hA hE hlocks hin hsz hP hD hS ls hl
  have hown : s.vm.findClass RX1 = some m.cls := hown
  have hl : lv_has ls 8 [(0, .ref (ad 0))] := hl
  refine lv_dconst0 hx hb dX1_misfitNow_0 ?_
  refine lv_dstore_n (lv' := [(1, .double FP.dconst0), (0, .ref (ad 0))]) hx hb dX1_misfitNow_1 rfl hl (Nat.le_of_ble_eq_true rfl) rfl (fun ls hl => ?_)
  refine lv_iconst (v := 0) hx hb dX1_misfitNow_2 (by decide) ?_
  refine lv_istore_n (lv' := [(3, .int 0), (1, .double FP.dconst0), (0, .ref (ad 0))]) hx hb dX1_misfitNow_3 rfl hl (Nat.le_of_ble_eq_true rfl) rfl (fun ls hl => ?_)
  have L_1 : ∀ (N : Nat) (i : Nat), n - i < N → (i ≤ n) → ∀ ls : Array Slot, lv_has ls 8 [(3, .int (nI i)), (1, .double (misF fi fo n fe i)), (0, .ref (ad 0))] → W p l e ({ frames := 2, cells := 0, slots := 0, locals := 48 } : Room) s m ([.ref (ad 0)] : List Value).toArray below meth c s.heap [] 0 0 (MQ below (rD (misF fi fo n fe n)) ([.ref (ad 0)] : List Value).toArray s 0 0 (fun _ => False)) (F0 m 4 ls []) := by
    intro N
    induction N with
    | zero => intro i hN; exact absurd hN (Nat.not_lt_zero _)
    | succ N ih4 =>
      intro i hN4 hi ls hl
      refine lv_iload_n hx hb dX1_misfitNow_4 rfl (lv_at hl 0 rfl) ?_
      refine lv_aload_n hx hb dX1_misfitNow_5 rfl (lv_at hl 2 rfl) ?_
      refine va_get (D := D) (ci := 0) (v := .int (nI n)) (C := RX1) (T := TX1) (N := 9) hx hb hts in_X1 hown hK hP 0 rfl rfl 2 (by decide) (hts _ q103) (fun _ h9 => h9) rfl dX1_misfitNow_6 ?_
      refine w_icmp_geN hx hb i n (by omega) (by omega) (tgt := 100) dX1_misfitNow_9 (by decide) (fun c_2 => ?_) (fun c_2 => ?_)
      · refine lv_dload_n hx hb dX1_misfitNow_100 rfl (lv_at hl 1 rfl) ?_
        exact er_d hx hb hr hlocks (by rw [show i = n by omega]) dX1_misfitNow_101
      · refine va_gets hx hb hE.1 hS hown (hts _ q194) (fun _ h9 => h9) dX1_misfitNow_12 ?_
        refine lv_aload_n hx hb dX1_misfitNow_15 rfl (lv_at hl 2 rfl) ?_
        refine va_get (D := D) (ci := 0) (v := .ref (ad 6)) (C := RX1) (T := TX1) (N := 9) hx hb hts in_X1 hown hK hP 0 rfl rfl 6 (by decide) (hts _ q116) (fun _ h9 => h9) rfl dX1_misfitNow_16 ?_
        refine lv_iload_n hx hb dX1_misfitNow_19 rfl (lv_at hl 0 rfl) ?_
        refine lv_aload_n hx hb dX1_misfitNow_20 rfl (lv_at hl 2 rfl) ?_
        refine va_get (D := D) (ci := 0) (v := .int (nI n)) (C := RX1) (T := TX1) (N := 9) hx hb hts in_X1 hown hK hP 0 rfl rfl 2 (by decide) (hts _ q103) (fun _ h9 => h9) rfl dX1_misfitNow_21 ?_
        refine kr_d (va_runU (As := [.ref (ad 6), .int (nI i), .int (nI n)]) (rest := []) (C := "TurnEstimator$Side$1") (owner := RX5) (x := yX5_sum) ⟨hx, hb, hml, hown, hts⟩ (mX_side_sumR l D cI cD cL tR tC s.heap.size (ad 6) i n fe (by first | assumption | omega) (by first | assumption | omega) (hok i (by omega)).1) (va_cwU 3 hts (lw_U (C := "TurnEstimator$Side$1") (owner := RX5) (x := yX5_sum) q196 q198 q199 q197 q63 q201) rfl rfl rfl rfl (by decide +kernel) ⟨Nat.le_of_ble_eq_true rfl, Nat.le_of_ble_eq_true rfl⟩) (pV_ (wc := [((ad 6), .inl (cD, 36, .inr (.inr (.inr (.inl fe)))))]) (va_Orecv hE.2.2.1 hS) hK hP hD hS hA hE [6] rfl rfl rfl) rfl rfl hl.1 rfl (lv_room (Nat.le_of_ble_eq_true rfl)) dX1_misfitNow_24 ⟨(Nat.le_of_ble_eq_true rfl), (Nat.le_of_ble_eq_true rfl)⟩) ?_
        refine lv_aload_n hx hb dX1_misfitNow_27 rfl (lv_at hl 2 rfl) ?_
        refine va_get (D := D) (ci := 0) (v := .ref (ad 3)) (C := RX1) (T := TX1) (N := 9) hx hb hts in_X1 hown hK hP 0 rfl rfl 3 (by decide) (hts _ q107) (fun _ h9 => h9) rfl dX1_misfitNow_28 ?_
        refine lv_iload_n hx hb dX1_misfitNow_31 rfl (lv_at hl 0 rfl) ?_
        refine w_iald hx hb hK hP 3 0 rfl rfl i (by omega) (by decide) dX1_misfitNow_32 ?_
        refine lv_i2d hx hb dX1_misfitNow_33 ?_
        refine kr_d (va_runS (As := [.double (dsum (rowG fe i) n), .double (FP.i2d (fi i))]) (rest := []) ⟨hx, hb, hml, hown, hts⟩ (mX_distance l D cI cD cL tR tC s.heap.size (dsum (rowG fe i) n) (FP.i2d (fi i)) (hok i (by omega)).2.1) (va_cwS 2 hts (lw_S q211 q212 q50 q213) rfl rfl rfl (by decide +kernel) ⟨Nat.le_of_ble_eq_true rfl, Nat.le_of_ble_eq_true rfl⟩) (pS_ (wc := []) hK hP hD hS hA hE [] rfl rfl rfl) rfl rfl hl.1 rfl (lv_room (Nat.le_of_ble_eq_true rfl)) dX1_misfitNow_34 ⟨(Nat.le_of_ble_eq_true rfl), (Nat.le_of_ble_eq_true rfl)⟩) ?_
        refine lv_dstore (lv' := [(4, .double (far (dsum (rowG fe i) n) (FP.i2d (fi i)))), (3, .int (nI i)), (1, .double (misF fi fo n fe i)), (0, .ref (ad 0))]) hx hb dX1_misfitNow_37 hl (Nat.le_of_ble_eq_true rfl) rfl (fun ls hl => ?_)
        refine va_gets hx hb hE.2.1 hS hown (hts _ q214) (fun _ h9 => h9) dX1_misfitNow_39 ?_
        refine lv_aload_n hx hb dX1_misfitNow_42 rfl (lv_at hl 3 rfl) ?_
        refine va_get (D := D) (ci := 0) (v := .ref (ad 6)) (C := RX1) (T := TX1) (N := 9) hx hb hts in_X1 hown hK hP 0 rfl rfl 6 (by decide) (hts _ q116) (fun _ h9 => h9) rfl dX1_misfitNow_43 ?_
        refine lv_iload_n hx hb dX1_misfitNow_46 rfl (lv_at hl 1 rfl) ?_
        refine lv_aload_n hx hb dX1_misfitNow_47 rfl (lv_at hl 3 rfl) ?_
        refine va_get (D := D) (ci := 0) (v := .int (nI n)) (C := RX1) (T := TX1) (N := 9) hx hb hts in_X1 hown hK hP 0 rfl rfl 2 (by decide) (hts _ q103) (fun _ h9 => h9) rfl dX1_misfitNow_48 ?_
        refine kr_d (va_runU (As := [.ref (ad 6), .int (nI i), .int (nI n)]) (rest := []) (C := "TurnEstimator$Side$2") (owner := RX5) (x := yX5_sum) ⟨hx, hb, hml, hown, hts⟩ (mX_side_sumC l D cI cD cL tR tC s.heap.size (ad 6) i n fe (by first | assumption | omega) (by first | assumption | omega) (hok i (by omega)).2.2.1) (va_cwU 3 hts (lw_U (C := "TurnEstimator$Side$2") (owner := RX5) (x := yX5_sum) q196 q198 q200 q197 q63 q201) rfl rfl rfl rfl (by decide +kernel) ⟨Nat.le_of_ble_eq_true rfl, Nat.le_of_ble_eq_true rfl⟩) (pV_ (wc := [((ad 6), .inl (cD, 36, .inr (.inr (.inr (.inl fe)))))]) (va_Orecv hE.2.2.2.1 hS) hK hP hD hS hA hE [6] rfl rfl rfl) rfl rfl hl.1 rfl (lv_room (Nat.le_of_ble_eq_true rfl)) dX1_misfitNow_51 ⟨(Nat.le_of_ble_eq_true rfl), (Nat.le_of_ble_eq_true rfl)⟩) ?_
        refine lv_aload_n hx hb dX1_misfitNow_54 rfl (lv_at hl 3 rfl) ?_
        refine va_get (D := D) (ci := 0) (v := .ref (ad 4)) (C := RX1) (T := TX1) (N := 9) hx hb hts in_X1 hown hK hP 0 rfl rfl 4 (by decide) (hts _ q110) (fun _ h9 => h9) rfl dX1_misfitNow_55 ?_
        refine lv_iload_n hx hb dX1_misfitNow_58 rfl (lv_at hl 1 rfl) ?_
        refine w_iald hx hb hK hP 4 0 rfl rfl i (by omega) (by decide) dX1_misfitNow_59 ?_
        refine lv_i2d hx hb dX1_misfitNow_60 ?_
        refine kr_d (va_runS (As := [.double (dsum (colG fe i) n), .double (FP.i2d (fo i))]) (rest := []) ⟨hx, hb, hml, hown, hts⟩ (mX_distance l D cI cD cL tR tC s.heap.size (dsum (colG fe i) n) (FP.i2d (fo i)) (hok i (by omega)).2.2.2) (va_cwS 2 hts (lw_S q211 q212 q50 q213) rfl rfl rfl (by decide +kernel) ⟨Nat.le_of_ble_eq_true rfl, Nat.le_of_ble_eq_true rfl⟩) (pS_ (wc := []) hK hP hD hS hA hE [] rfl rfl rfl) rfl rfl hl.1 rfl (lv_room (Nat.le_of_ble_eq_true rfl)) dX1_misfitNow_61 ⟨(Nat.le_of_ble_eq_true rfl), (Nat.le_of_ble_eq_true rfl)⟩) ?_
        refine lv_dstore (lv' := [(6, .double (far (dsum (colG fe i) n) (FP.i2d (fo i)))), (4, .double (far (dsum (rowG fe i) n) (FP.i2d (fi i)))), (3, .int (nI i)), (1, .double (misF fi fo n fe i)), (0, .ref (ad 0))]) hx hb dX1_misfitNow_64 hl (Nat.le_of_ble_eq_true rfl) rfl (fun ls hl => ?_)
        refine lv_dload hx hb dX1_misfitNow_66 (lv_at hl 1 rfl) ?_
        refine lv_dload_n hx hb dX1_misfitNow_68 rfl (lv_at hl 3 rfl) ?_
        refine lv_dcmp hx hb dX1_misfitNow_69 ?_
        have J_4 : ∀ (v_3 : UInt64), v_3 = (if dgt (far (dsum (rowG fe i) n) (FP.i2d (fi i))) (misF fi fo n fe i) = true then far (dsum (rowG fe i) n) (FP.i2d (fi i)) else misF fi fo n fe i) → ∀ ls : Array Slot, lv_has ls 8 [(6, .double (far (dsum (colG fe i) n) (FP.i2d (fo i)))), (4, .double (far (dsum (rowG fe i) n) (FP.i2d (fi i)))), (3, .int (nI i)), (1, .double (misF fi fo n fe i)), (0, .ref (ad 0))] → W p l e ({ frames := 2, cells := 0, slots := 0, locals := 48 } : Room) s m ([.ref (ad 0)] : List Value).toArray below meth c s.heap [] 0 0 (MQ below (rD (misF fi fo n fe n)) ([.ref (ad 0)] : List Value).toArray s 0 0 (fun _ => False)) (F0 m 79 ls [.double v_3]) := by
          intro v_3 hv_3 ls hl
          subst hv_3
          refine lv_dstore_n (lv' := [(1, .double (if dgt (far (dsum (rowG fe i) n) (FP.i2d (fi i))) (misF fi fo n fe i) = true then far (dsum (rowG fe i) n) (FP.i2d (fi i)) else misF fi fo n fe i)), (6, .double (far (dsum (colG fe i) n) (FP.i2d (fo i)))), (4, .double (far (dsum (rowG fe i) n) (FP.i2d (fi i)))), (3, .int (nI i)), (0, .ref (ad 0))]) hx hb dX1_misfitNow_79 rfl hl (Nat.le_of_ble_eq_true rfl) rfl (fun ls hl => ?_)
          refine lv_dload hx hb dX1_misfitNow_80 (lv_at hl 1 rfl) ?_
          refine lv_dload_n hx hb dX1_misfitNow_82 rfl (lv_at hl 0 rfl) ?_
          refine lv_dcmp hx hb dX1_misfitNow_83 ?_
          have J_6 : ∀ (v_5 : UInt64), v_5 = (if dgt (far (dsum (colG fe i) n) (FP.i2d (fo i))) (if dgt (far (dsum (rowG fe i) n) (FP.i2d (fi i))) (misF fi fo n fe i) = true then far (dsum (rowG fe i) n) (FP.i2d (fi i)) else misF fi fo n fe i) = true then far (dsum (colG fe i) n) (FP.i2d (fo i)) else (if dgt (far (dsum (rowG fe i) n) (FP.i2d (fi i))) (misF fi fo n fe i) = true then far (dsum (rowG fe i) n) (FP.i2d (fi i)) else misF fi fo n fe i)) → ∀ ls : Array Slot, lv_has ls 8 [(1, .double (if dgt (far (dsum (rowG fe i) n) (FP.i2d (fi i))) (misF fi fo n fe i) = true then far (dsum (rowG fe i) n) (FP.i2d (fi i)) else misF fi fo n fe i)), (6, .double (far (dsum (colG fe i) n) (FP.i2d (fo i)))), (4, .double (far (dsum (rowG fe i) n) (FP.i2d (fi i)))), (3, .int (nI i)), (0, .ref (ad 0))] → W p l e ({ frames := 2, cells := 0, slots := 0, locals := 48 } : Room) s m ([.ref (ad 0)] : List Value).toArray below meth c s.heap [] 0 0 (MQ below (rD (misF fi fo n fe n)) ([.ref (ad 0)] : List Value).toArray s 0 0 (fun _ => False)) (F0 m 93 ls [.double v_5]) := by
            intro v_5 hv_5 ls hl
            subst hv_5
            refine lv_dstore_n (lv' := [(1, .double (if dgt (far (dsum (colG fe i) n) (FP.i2d (fo i))) (if dgt (far (dsum (rowG fe i) n) (FP.i2d (fi i))) (misF fi fo n fe i) = true then far (dsum (rowG fe i) n) (FP.i2d (fi i)) else misF fi fo n fe i) = true then far (dsum (colG fe i) n) (FP.i2d (fo i)) else (if dgt (far (dsum (rowG fe i) n) (FP.i2d (fi i))) (misF fi fo n fe i) = true then far (dsum (rowG fe i) n) (FP.i2d (fi i)) else misF fi fo n fe i))), (6, .double (far (dsum (colG fe i) n) (FP.i2d (fo i)))), (4, .double (far (dsum (rowG fe i) n) (FP.i2d (fi i)))), (3, .int (nI i)), (0, .ref (ad 0))]) hx hb dX1_misfitNow_93 rfl hl (Nat.le_of_ble_eq_true rfl) rfl (fun ls hl => ?_)
            refine w_iinc hx hb i (lv' := [(3, .int (nI (i + 1))), (1, .double (if dgt (far (dsum (colG fe i) n) (FP.i2d (fo i))) (if dgt (far (dsum (rowG fe i) n) (FP.i2d (fi i))) (misF fi fo n fe i) = true then far (dsum (rowG fe i) n) (FP.i2d (fi i)) else misF fi fo n fe i) = true then far (dsum (colG fe i) n) (FP.i2d (fo i)) else (if dgt (far (dsum (rowG fe i) n) (FP.i2d (fi i))) (misF fi fo n fe i) = true then far (dsum (rowG fe i) n) (FP.i2d (fi i)) else misF fi fo n fe i))), (6, .double (far (dsum (colG fe i) n) (FP.i2d (fo i)))), (4, .double (far (dsum (rowG fe i) n) (FP.i2d (fi i)))), (0, .ref (ad 0))]) dX1_misfitNow_94 hl (k := 3) rfl (Nat.le_of_ble_eq_true rfl) rfl (fun ls hl => ?_)
            refine lv_goto (tgt := 4) hx hb dX1_misfitNow_97 (by decide) ?_
            exact ih4 (i + 1) (by omega) (by omega) ls (lv_sub hl [0, 1, 4] rfl)
          refine w_if_leD hx hb (far (dsum (colG fe i) n) (FP.i2d (fo i))) (if dgt (far (dsum (rowG fe i) n) (FP.i2d (fi i))) (misF fi fo n fe i) = true then far (dsum (rowG fe i) n) (FP.i2d (fi i)) else misF fi fo n fe i) (tgt := 92) dX1_misfitNow_84 (by decide) (fun c_7 => ?_) (fun c_7 => ?_)
          · refine lv_dload_n hx hb dX1_misfitNow_92 rfl (lv_at hl 0 rfl) ?_
            exact J_6 (if dgt (far (dsum (rowG fe i) n) (FP.i2d (fi i))) (misF fi fo n fe i) = true then far (dsum (rowG fe i) n) (FP.i2d (fi i)) else misF fi fo n fe i) (by rw [if_neg c_7]) ls (lv_sub hl [0, 1, 2, 3, 4] rfl)
          · refine lv_dload hx hb dX1_misfitNow_87 (lv_at hl 1 rfl) ?_
            refine lv_goto (tgt := 93) hx hb dX1_misfitNow_89 (by decide) ?_
            exact J_6 (far (dsum (colG fe i) n) (FP.i2d (fo i))) (by rw [if_pos c_7]) ls (lv_sub hl [0, 1, 2, 3, 4] rfl)
        refine w_if_leD hx hb (far (dsum (rowG fe i) n) (FP.i2d (fi i))) (misF fi fo n fe i) (tgt := 78) dX1_misfitNow_70 (by decide) (fun c_8 => ?_) (fun c_8 => ?_)
        · refine lv_dload_n hx hb dX1_misfitNow_78 rfl (lv_at hl 3 rfl) ?_
          exact J_4 (misF fi fo n fe i) (by rw [if_neg c_8]) ls (lv_sub hl [0, 1, 2, 3, 4] rfl)
        · refine lv_dload hx hb dX1_misfitNow_73 (lv_at hl 1 rfl) ?_
          refine lv_goto (tgt := 79) hx hb dX1_misfitNow_75 (by decide) ?_
          exact J_4 (far (dsum (rowG fe i) n) (FP.i2d (fi i))) (by rw [if_pos c_8]) ls (lv_sub hl [0, 1, 2, 3, 4] rfl)
  exact L_1 ((n - 0) + 1) 0 (Nat.lt_succ_self _) (by omega) ls (lv_sub hl [0, 1, 2] rfl)

set_option maxHeartbeats 4000000 in
set_option maxRecDepth 100000 in
theorem mX_misfit (l : Launch) (D : va_G) (cI cD cL : ClassId) (tR tC sz : Nat) (ad : Nat → Nat) (n : Nat) (fi : Nat → Int32) (fo : Nat → Int32) (fw : Nat → Int32) (fe : Nat → UInt64) (d : Int32) (hs : Int64) (hn : n ≤ 6) (hok : okMis fi fo n fe) : Met l yX1_misfit (ws_ yX1_misfit cX1_misfit 1 (some .double)) ({ frames := 3, cells := 0, slots := 0, locals := 75 } : Room) (pX [.ref (ad 0)] D [(ad 0, .inr (0, [.ref (ad 1), .ref (ad 2), .int (nI n), .ref (ad 3), .ref (ad 4), .ref (ad 5), .ref (ad 6), .int d, .long hs])), (ad 1, .inr (1, [])), (ad 2, .inr (2, [])), (ad 3, .inl (cI, 6, .inl fi)), (ad 4, .inl (cI, 6, .inl fo)), (ad 5, .inl (cI, 36, .inl fw)), (ad 6, .inl (cD, 36, .inr (.inr (.inr (.inl fe)))))] cI cD cL tR tC sz) (rD (misF fi fo n fe n)) 0 0 (fun _ => False) := by
  refine mR_ (by decide +kernel) (Nat.le_of_ble_eq_true rfl) ?_
  intro p e s m below meth c A hx hb hr hml hown hts hK hA hE hlocks hin hsz hP hD hS ls hl
  have hown : s.vm.findClass RX1 = some m.cls := hown
  have hl : lv_has ls 1 [(0, .ref (ad 0))] := hl
  refine lv_aload_n hx hb dX1_misfit_0 rfl (lv_at hl 0 rfl) ?_
  refine kr_d (va_runV (As := []) (rest := []) ⟨hx, hb, hml, hown, hts⟩ (mX_misfitNow l D cI cD cL tR tC s.heap.size ad n fi fo fw fe d hs (by first | assumption | omega) (by first | assumption | omega)) (cwV 0 hts (lw_V q190 q192 qs6 q50 q193) rfl rfl rfl (by decide +kernel) ⟨Nat.le_of_ble_eq_true rfl, Nat.le_of_ble_eq_true rfl⟩) (pV_ (wc := [(ad 0, .inr (0, [.ref (ad 1), .ref (ad 2), .int (nI n), .ref (ad 3), .ref (ad 4), .ref (ad 5), .ref (ad 6), .int d, .long hs])), (ad 1, .inr (1, [])), (ad 2, .inr (2, [])), (ad 3, .inl (cI, 6, .inl fi)), (ad 4, .inl (cI, 6, .inl fo)), (ad 5, .inl (cI, 36, .inl fw)), (ad 6, .inl (cD, 36, .inr (.inr (.inr (.inl fe)))))]) (va_recv hK hP (ci := 0) (q0 := 0) rfl rfl) hK hP hD hS hA hE [0, 1, 2, 3, 4, 5, 6] rfl rfl rfl) rfl rfl hl.1 rfl (lv_room (Nat.le_of_ble_eq_true rfl)) dX1_misfit_1 ⟨(Nat.le_of_ble_eq_true rfl), (Nat.le_of_ble_eq_true rfl)⟩) ?_
  exact er_d hx hb hr hlocks rfl dX1_misfit_4

set_option maxHeartbeats 4000000 in
set_option maxRecDepth 100000 in
theorem mX_fit (l : Launch) (D : va_G) (cI cD cL : ClassId) (tR tC sz : Nat) (ad : Nat → Nat) (n : Nat) (fi : Nat → Int32) (fo : Nat → Int32) (fw : Nat → Int32) (fe : Nat → UInt64) (d : Int32) (hs : Int64) (th : Int32) (q : Nat) (I : (Nat → UInt64) → Prop) (hn : n ≤ 6) (hq : q ≤ 100) (ht : decide (0 ≤ th ∧ th ≤ 100000) = true) (hv : decide (1 ≤ nI q ∧ nI q ≤ 100) = true) (hd : vf_n64 (FP.ddiv (FP.i2d th) d1000)) (hI0 : I fe) (hIr : ∀ e, I e → okRound fi fo n e) (hIs : ∀ e, I e → I (roundF fi fo n e)) (hIm : ∀ e, I e → okMis fi fo n e) : Met l yX1_fit (ws_ yX1_fit cX1_fit 6 (some .int)) ({ frames := 4, cells := 0, slots := 0, locals := 96 } : Room) (pX [.ref (ad 0), .int th, .int (nI q)] D [(ad 0, .inr (0, [.ref (ad 1), .ref (ad 2), .int (nI n), .ref (ad 3), .ref (ad 4), .ref (ad 5), .ref (ad 6), .int d, .long hs])), (ad 1, .inr (1, [])), (ad 2, .inr (2, [])), (ad 3, .inl (cI, 6, .inl fi)), (ad 4, .inl (cI, 6, .inl fo)), (ad 5, .inl (cI, 36, .inl fw)), (ad 6, .inl (cD, 36, .inr (.inr (.inr (.inl fe)))))] cI cD cL tR tC sz) (qI D (nI (fitN fi fo n (FP.ddiv (FP.i2d th) d1000) q fe)) [(ad 0, .inr (0, [.ref (ad 1), .ref (ad 2), .int (nI n), .ref (ad 3), .ref (ad 4), .ref (ad 5), .ref (ad 6), .int (d + nI (fitN fi fo n (FP.ddiv (FP.i2d th) d1000) q fe)), .long hs])), (ad 1, .inr (1, [])), (ad 2, .inr (2, [])), (ad 3, .inl (cI, 6, .inl fi)), (ad 4, .inl (cI, 6, .inl fo)), (ad 5, .inl (cI, 36, .inl fw)), (ad 6, .inl (cD, 36, .inr (.inr (.inr (.inl (iterF fi fo n fe (fitN fi fo n (FP.ddiv (FP.i2d th) d1000) q fe)))))))] (va_A [(ad 0, .inr (0, [.ref (ad 1), .ref (ad 2), .int (nI n), .ref (ad 3), .ref (ad 4), .ref (ad 5), .ref (ad 6), .int d, .long hs])), (ad 1, .inr (1, [])), (ad 2, .inr (2, [])), (ad 3, .inl (cI, 6, .inl fi)), (ad 4, .inl (cI, 6, .inl fo)), (ad 5, .inl (cI, 36, .inl fw)), (ad 6, .inl (cD, 36, .inr (.inr (.inr (.inl fe)))))] sz)) 0 0 (va_A [(ad 0, .inr (0, [.ref (ad 1), .ref (ad 2), .int (nI n), .ref (ad 3), .ref (ad 4), .ref (ad 5), .ref (ad 6), .int d, .long hs])), (ad 1, .inr (1, [])), (ad 2, .inr (2, [])), (ad 3, .inl (cI, 6, .inl fi)), (ad 4, .inl (cI, 6, .inl fo)), (ad 5, .inl (cI, 36, .inl fw)), (ad 6, .inl (cD, 36, .inr (.inr (.inr (.inl fe)))))] sz) := by
  refine mS_ (Qf := qI D (nI (fitN fi fo n (FP.ddiv (FP.i2d th) d1000) q fe)) [(ad 0, .inr (0, [.ref (ad 1), .ref (ad 2), .int (nI n), .ref (ad 3), .ref (ad 4), .ref (ad 5), .ref (ad 6), .int (d + nI (fitN fi fo n (FP.ddiv (FP.i2d th) d1000) q fe)), .long hs])), (ad 1, .inr (1, [])), (ad 2, .inr (2, [])), (ad 3, .inl (cI, 6, .inl fi)), (ad 4, .inl (cI, 6, .inl fo)), (ad 5, .inl (cI, 36, .inl fw)), (ad 6, .inl (cD, 36, .inr (.inr (.inr (.inl (iterF fi fo n fe (fitN fi fo n (FP.ddiv (FP.i2d th) d1000) q fe)))))))]) (by decide +kernel) (Nat.le_of_ble_eq_true rfl) ?_
  intro p e s m below meth c A hx hb hr hml hown hts hK hA hE hlocks hin hsz hP hD hS ls hl
  have hown : s.vm.findClass RX1 = some m.cls := hown
  have hl : lv_has ls 6 [(0, .ref (ad 0)), (1, .int th), (2, .int (nI q))] := hl
  refine lv_iload_n hx hb dX1_fit_0 rfl (lv_at hl 1 rfl) ?_
  refine lv_iconst (v := 0) hx hb dX1_fit_1 (by decide) ?_
  refine lv_ldc (v := 100000) hx hb hown (hts _ q583) dX1_fit_2 ?_
  refine kr_i (va_runS (As := [.int th, .int 0, .int 100000]) (rest := []) ⟨hx, hb, hml, hown, hts⟩ (mX_inRange l D cI cD cL tR tC s.heap.size th 0 100000) (va_cwS 3 hts (lw_S q330 q331 q50 q332) rfl rfl rfl (by decide +kernel) ⟨Nat.le_of_ble_eq_true rfl, Nat.le_of_ble_eq_true rfl⟩) (pS_ (wc := []) hK hP hD hS hA hE [] rfl rfl rfl) rfl rfl hl.1 rfl (lv_room (Nat.le_of_ble_eq_true rfl)) dX1_fit_4 ⟨(Nat.le_of_ble_eq_true rfl), (Nat.le_of_ble_eq_true rfl)⟩) ?_
  refine w_if_eqB hx hb (decide (0 ≤ th ∧ th ≤ 100000)) (tgt := 24) dX1_fit_7 (by decide) (fun c_1 => ?_) (fun c_1 => ?_)
  · exact absurd ht c_1
  · refine lv_iload_n hx hb dX1_fit_10 rfl (lv_at hl 2 rfl) ?_
    refine lv_iconst (v := 1) hx hb dX1_fit_11 (by decide) ?_
    refine lv_bipush (v := 100) hx hb dX1_fit_12 (by decide) ?_
    refine kr_i (va_runS (As := [.int (nI q), .int 1, .int 100]) (rest := []) ⟨hx, hb, hml, hown, hts⟩ (mX_inRange l D cI cD cL tR tC s.heap.size (nI q) 1 100) (va_cwS 3 hts (lw_S q330 q331 q50 q332) rfl rfl rfl (by decide +kernel) ⟨Nat.le_of_ble_eq_true rfl, Nat.le_of_ble_eq_true rfl⟩) (pS_ (wc := []) hK hP hD hS hA hE [] rfl rfl rfl) rfl rfl hl.1 rfl (lv_room (Nat.le_of_ble_eq_true rfl)) dX1_fit_14 ⟨(Nat.le_of_ble_eq_true rfl), (Nat.le_of_ble_eq_true rfl)⟩) ?_
    refine w_if_eqB hx hb (decide (1 ≤ (nI q) ∧ (nI q) ≤ 100)) (tgt := 24) dX1_fit_17 (by decide) (fun c_2 => ?_) (fun c_2 => ?_)
    · exact absurd hv c_2
    · refine lv_iconst (v := 1) hx hb dX1_fit_20 (by decide) ?_
      refine lv_goto (tgt := 25) hx hb dX1_fit_21 (by decide) ?_
      refine kr_v (va_runS (As := [.int 1]) (rest := []) ⟨hx, hb, hml, hown, hts⟩ (mX_require l D cI cD cL tR tC s.heap.size true rfl) (va_cwS 1 hts (lw_S q333 q334 q50 q335) rfl rfl rfl (by decide +kernel) ⟨Nat.le_of_ble_eq_true rfl, Nat.le_of_ble_eq_true rfl⟩) (pS_ (wc := []) hK hP hD hS hA hE [] rfl rfl rfl) rfl rfl hl.1 rfl (lv_room (Nat.le_of_ble_eq_true rfl)) dX1_fit_25 ⟨(Nat.le_of_ble_eq_true rfl), (Nat.le_of_ble_eq_true rfl)⟩) ?_
      refine lv_iload_n hx hb dX1_fit_28 rfl (lv_at hl 1 rfl) ?_
      refine lv_i2d hx hb dX1_fit_29 ?_
      refine lv_ldc2d (v := 4652007308841189376) hx hb hown (hts _ q320) dX1_fit_30 ?_
      refine lv_ddiv hx hb dX1_fit_33 hd ?_
      refine lv_dstore_n (lv' := [(3, .double (FP.ddiv (FP.i2d th) 4652007308841189376)), (0, .ref (ad 0)), (1, .int th), (2, .int (nI q))]) hx hb dX1_fit_34 rfl hl (Nat.le_of_ble_eq_true rfl) rfl (fun ls hl => ?_)
      refine lv_iconst (v := 0) hx hb dX1_fit_35 (by decide) ?_
      refine lv_istore (lv' := [(5, .int 0), (3, .double (FP.ddiv (FP.i2d th) 4652007308841189376)), (0, .ref (ad 0)), (1, .int th), (2, .int (nI q))]) hx hb dX1_fit_36 hl (Nat.le_of_ble_eq_true rfl) rfl (fun ls hl => ?_)
      have L_3 : ∀ (N : Nat) (i : Nat) (dd : Int32), q - i < N → (i ≤ q) → (I (iterF fi fo n fe i)) → (dd = d + nI i) → (i + fitN fi fo n (FP.ddiv (FP.i2d th) d1000) (q - i) (iterF fi fo n fe i) = fitN fi fo n (FP.ddiv (FP.i2d th) d1000) q fe) → ∀ (H : Heap) (locs : List Loc), va_P D vwCl [(ad 0, .inr (0, [.ref (ad 1), .ref (ad 2), .int (nI n), .ref (ad 3), .ref (ad 4), .ref (ad 5), .ref (ad 6), .int dd, .long hs])), (ad 1, .inr (1, [])), (ad 2, .inr (2, [])), (ad 3, .inl (cI, 6, .inl fi)), (ad 4, .inl (cI, 6, .inl fo)), (ad 5, .inl (cI, 36, .inl fw)), (ad 6, .inl (cD, 36, .inr (.inr (.inr (.inl (iterF fi fo n fe i))))))] H → va_D A [(ad 0, .inr (0, [.ref (ad 1), .ref (ad 2), .int (nI n), .ref (ad 3), .ref (ad 4), .ref (ad 5), .ref (ad 6), .int dd, .long hs])), (ad 1, .inr (1, [])), (ad 2, .inr (2, [])), (ad 3, .inl (cI, 6, .inl fi)), (ad 4, .inl (cI, 6, .inl fo)), (ad 5, .inl (cI, 36, .inl fw)), (ad 6, .inl (cD, 36, .inr (.inr (.inr (.inl (iterF fi fo n fe i))))))] → va_S A s.heap H locs → ∀ ls : Array Slot, lv_has ls 6 [(5, .int (nI i)), (3, .double (FP.ddiv (FP.i2d th) 4652007308841189376)), (0, .ref (ad 0)), (1, .int th), (2, .int (nI q))] → W p l e ({ frames := 4, cells := 0, slots := 0, locals := 96 } : Room) s m ([.ref (ad 0), .int th, .int (nI q)] : List Value).toArray below meth c H locs 0 0 (MQ below (qI D (nI (fitN fi fo n (FP.ddiv (FP.i2d th) d1000) q fe)) [(ad 0, .inr (0, [.ref (ad 1), .ref (ad 2), .int (nI n), .ref (ad 3), .ref (ad 4), .ref (ad 5), .ref (ad 6), .int (d + nI (fitN fi fo n (FP.ddiv (FP.i2d th) d1000) q fe)), .long hs])), (ad 1, .inr (1, [])), (ad 2, .inr (2, [])), (ad 3, .inl (cI, 6, .inl fi)), (ad 4, .inl (cI, 6, .inl fo)), (ad 5, .inl (cI, 36, .inl fw)), (ad 6, .inl (cD, 36, .inr (.inr (.inr (.inl (iterF fi fo n fe (fitN fi fo n (FP.ddiv (FP.i2d th) d1000) q fe)))))))] A) ([.ref (ad 0), .int th, .int (nI q)] : List Value).toArray s 0 0 A) (F0 m 38 ls []) := by
        intro N
        induction N with
        | zero => intro i dd hN; exact absurd hN (Nat.not_lt_zero _)
        | succ N ih38 =>
          intro i dd hN38 hi hI hdd hf H locs hP hD hS ls hl
          refine lv_iload hx hb dX1_fit_38 (lv_at hl 0 rfl) ?_
          refine lv_iload_n hx hb dX1_fit_40 rfl (lv_at hl 4 rfl) ?_
          refine w_icmp_geN hx hb i q (by omega) (by omega) (tgt := 63) dX1_fit_41 (by decide) (fun c_4 => ?_) (fun c_4 => ?_)
          · have hf : i = fitN fi fo n (FP.ddiv (FP.i2d th) d1000) q fe := by rw [← hf, show q - i = 0 by omega]; rfl
            subst hdd
            subst hf
            refine lv_iload hx hb dX1_fit_63 (lv_at hl 0 rfl) ?_
            exact es_i hx hb hr hlocks hP hD hS rfl dX1_fit_65
          · refine lv_aload_n hx hb dX1_fit_44 rfl (lv_at hl 2 rfl) ?_
            refine kr_d (va_runV (As := []) (rest := []) ⟨hx, hb, hml, hown, hts⟩ (mX_misfitNow l D cI cD cL tR tC H.size ad n fi fo fw (iterF fi fo n fe i) dd hs (by first | assumption | omega) (hIm _ hI)) (cwV 0 hts (lw_V q190 q192 qs6 q50 q193) rfl rfl rfl (by decide +kernel) ⟨Nat.le_of_ble_eq_true rfl, Nat.le_of_ble_eq_true rfl⟩) (pV_ (wc := [(ad 0, .inr (0, [.ref (ad 1), .ref (ad 2), .int (nI n), .ref (ad 3), .ref (ad 4), .ref (ad 5), .ref (ad 6), .int dd, .long hs])), (ad 1, .inr (1, [])), (ad 2, .inr (2, [])), (ad 3, .inl (cI, 6, .inl fi)), (ad 4, .inl (cI, 6, .inl fo)), (ad 5, .inl (cI, 36, .inl fw)), (ad 6, .inl (cD, 36, .inr (.inr (.inr (.inl (iterF fi fo n fe i))))))]) (va_recv hK hP (ci := 0) (q0 := 0) rfl rfl) hK hP hD hS hA hE [0, 1, 2, 3, 4, 5, 6] rfl rfl rfl) rfl rfl hl.1 rfl (lv_room (Nat.le_of_ble_eq_true rfl)) dX1_fit_45 ⟨(Nat.le_of_ble_eq_true rfl), (Nat.le_of_ble_eq_true rfl)⟩) ?_
            refine lv_dload_n hx hb dX1_fit_48 rfl (lv_at hl 1 rfl) ?_
            refine lv_dcmp hx hb dX1_fit_49 ?_
            refine w_if_leD hx hb (misF fi fo n (iterF fi fo n fe i) n) (FP.ddiv (FP.i2d th) 4652007308841189376) (tgt := 63) dX1_fit_50 (by decide) (fun c_5 => ?_) (fun c_5 => ?_)
            · have hf : i = fitN fi fo n (FP.ddiv (FP.i2d th) d1000) q fe := by rw [← hf, show q - i = (q - (i + 1)) + 1 by omega]; simp only [fitN]; rw [if_neg (by assumption)]; rfl
              subst hdd
              subst hf
              refine lv_iload hx hb dX1_fit_63 (lv_at hl 0 rfl) ?_
              exact es_i hx hb hr hlocks hP hD hS rfl dX1_fit_65
            · refine lv_aload_n hx hb dX1_fit_53 rfl (lv_at hl 2 rfl) ?_
              refine ks_v (wc := [(ad 0, .inr (0, [.ref (ad 1), .ref (ad 2), .int (nI n), .ref (ad 3), .ref (ad 4), .ref (ad 5), .ref (ad 6), .int dd, .long hs])), (ad 1, .inr (1, [])), (ad 2, .inr (2, [])), (ad 3, .inl (cI, 6, .inl fi)), (ad 4, .inl (cI, 6, .inl fo)), (ad 5, .inl (cI, 36, .inl fw)), (ad 6, .inl (cD, 36, .inr (.inr (.inr (.inl (iterF fi fo n fe i))))))]) (wr := []) (w1 := [(ad 0, .inr (0, [.ref (ad 1), .ref (ad 2), .int (nI n), .ref (ad 3), .ref (ad 4), .ref (ad 5), .ref (ad 6), .int (dd + 1), .long hs])), (ad 1, .inr (1, [])), (ad 2, .inr (2, [])), (ad 3, .inl (cI, 6, .inl fi)), (ad 4, .inl (cI, 6, .inl fo)), (ad 5, .inl (cI, 36, .inl fw)), (ad 6, .inl (cD, 36, .inr (.inr (.inr (.inl (roundF fi fo n (iterF fi fo n fe i)))))))]) (va_runV (As := []) (rest := []) ⟨hx, hb, hml, hown, hts⟩ (mX_round l D cI cD cL tR tC H.size ad n fi fo fw (iterF fi fo n fe i) dd hs (by first | assumption | omega) (hIr _ hI)) (cwV 0 hts (lw_V q529 q531 qs21 q50 q532) rfl rfl rfl (by decide +kernel) ⟨Nat.le_of_ble_eq_true rfl, Nat.le_of_ble_eq_true rfl⟩) (pV_ (wc := [(ad 0, .inr (0, [.ref (ad 1), .ref (ad 2), .int (nI n), .ref (ad 3), .ref (ad 4), .ref (ad 5), .ref (ad 6), .int dd, .long hs])), (ad 1, .inr (1, [])), (ad 2, .inr (2, [])), (ad 3, .inl (cI, 6, .inl fi)), (ad 4, .inl (cI, 6, .inl fo)), (ad 5, .inl (cI, 36, .inl fw)), (ad 6, .inl (cD, 36, .inr (.inr (.inr (.inl (iterF fi fo n fe i))))))]) (va_recv hK hP (ci := 0) (q0 := 0) rfl rfl) hK hP hD hS hA hE [0, 1, 2, 3, 4, 5, 6] rfl rfl rfl) rfl rfl hl.1 rfl (lv_room (Nat.le_of_ble_eq_true rfl)) dX1_fit_54 ⟨(Nat.le_of_ble_eq_true rfl), (Nat.le_of_ble_eq_true rfl)⟩) hP hD hS hA [0, 1, 2, 3, 4, 5, 6] [] rfl rfl rfl (by decide) (fun H locs hP hD hS => ?_)
              have hP : va_P D vwCl [(ad 0, .inr (0, [.ref (ad 1), .ref (ad 2), .int (nI n), .ref (ad 3), .ref (ad 4), .ref (ad 5), .ref (ad 6), .int (dd + 1), .long hs])), (ad 1, .inr (1, [])), (ad 2, .inr (2, [])), (ad 3, .inl (cI, 6, .inl fi)), (ad 4, .inl (cI, 6, .inl fo)), (ad 5, .inl (cI, 36, .inl fw)), (ad 6, .inl (cD, 36, .inr (.inr (.inr (.inl (roundF fi fo n (iterF fi fo n fe i)))))))] H := hP
              have hD : va_D A [(ad 0, .inr (0, [.ref (ad 1), .ref (ad 2), .int (nI n), .ref (ad 3), .ref (ad 4), .ref (ad 5), .ref (ad 6), .int (dd + 1), .long hs])), (ad 1, .inr (1, [])), (ad 2, .inr (2, [])), (ad 3, .inl (cI, 6, .inl fi)), (ad 4, .inl (cI, 6, .inl fo)), (ad 5, .inl (cI, 36, .inl fw)), (ad 6, .inl (cD, 36, .inr (.inr (.inr (.inl (roundF fi fo n (iterF fi fo n fe i)))))))] := hD
              refine w_iinc hx hb i (lv' := [(5, .int (nI (i + 1))), (3, .double (FP.ddiv (FP.i2d th) 4652007308841189376)), (0, .ref (ad 0)), (1, .int th), (2, .int (nI q))]) dX1_fit_57 hl (k := 0) rfl (Nat.le_of_ble_eq_true rfl) rfl (fun ls hl => ?_)
              refine lv_goto (tgt := 38) hx hb dX1_fit_60 (by decide) ?_
              exact ih38 (i + 1) (dd + 1) (by omega) (by omega) (hIs _ hI) (by rw [hdd]; exact nI_d1 d i) (by rw [← hf, show q - i = (q - (i + 1)) + 1 by omega]; simp only [fitN]; rw [if_pos (by assumption)]; simp only [iterF]; omega) H locs hP hD hS ls (lv_sub hl [0, 1, 2, 3, 4] rfl)
      exact L_3 ((q - 0) + 1) 0 d (Nat.lt_succ_self _) (by omega) hI0 (nI_d0 d) (by rw [Nat.zero_add]; rfl) s.heap [] hP hD hS ls (lv_sub hl [0, 1, 2, 3, 4] rfl)

set_option maxHeartbeats 4000000 in
set_option maxRecDepth 100000 in
theorem tX_fit1 (l : Launch) (D : va_G) (cI cD cL : ClassId) (tR tC sz : Nat) (ad : Nat → Nat) (n : Nat) (fi : Nat → Int32) (fo : Nat → Int32) (fw : Nat → Int32) (fe : Nat → UInt64) (d : Int32) (hs : Int64) (th : Int32) (li : Int32) (ht : ¬ decide (0 ≤ th ∧ th ≤ 100000) = true) (hfl : l.stackTraces = false) : xThr l yX1_fit (ws_ yX1_fit cX1_fit 6 (some .int)) ({ frames := 7, cells := 1, slots := 6, locals := 101 } : Room) (pX [.ref (ad 0), .int th, .int li] D [(ad 0, .inr (0, [.ref (ad 1), .ref (ad 2), .int (nI n), .ref (ad 3), .ref (ad 4), .ref (ad 5), .ref (ad 6), .int d, .long hs])), (ad 1, .inr (1, [])), (ad 2, .inr (2, [])), (ad 3, .inl (cI, 6, .inl fi)), (ad 4, .inl (cI, 6, .inl fo)), (ad 5, .inl (cI, 36, .inl fw)), (ad 6, .inl (cD, 36, .inr (.inr (.inr (.inl fe)))))] cI cD cL tR tC sz) "java/lang/IllegalArgumentException" := by
  refine mT_ (by decide +kernel) (Nat.le_of_ble_eq_true rfl) ?_
  intro p e s m below meth c A hx hb hr hml hown hts hK hA hE hlocks hin hsz hP hD hS hout ls hl
  have hown : s.vm.findClass RX1 = some m.cls := hown
  have hl : lv_has ls 6 [(0, .ref (ad 0)), (1, .int th), (2, .int li)] := hl
  refine lv_iload_n hx hb dX1_fit_0 rfl (lv_at hl 1 rfl) ?_
  refine lv_iconst (v := 0) hx hb dX1_fit_1 (by decide) ?_
  refine lv_ldc (v := 100000) hx hb hown (hts _ q583) dX1_fit_2 ?_
  refine kr_i (va_runS (As := [.int th, .int 0, .int 100000]) (rest := []) ⟨hx, hb, hml, hown, hts⟩ (mX_inRange l D cI cD cL tR tC s.heap.size th 0 100000) (va_cwS 3 hts (lw_S q330 q331 q50 q332) rfl rfl rfl (by decide +kernel) ⟨Nat.le_of_ble_eq_true rfl, Nat.le_of_ble_eq_true rfl⟩) (pS_ (wc := []) hK hP hD hS hA hE [] rfl rfl rfl) rfl rfl hl.1 rfl (lv_room (Nat.le_of_ble_eq_true rfl)) dX1_fit_4 ⟨(Nat.le_of_ble_eq_true rfl), (Nat.le_of_ble_eq_true rfl)⟩) ?_
  refine w_if_eqB hx hb (decide (0 ≤ th ∧ th ≤ 100000)) (tgt := 24) dX1_fit_7 (by decide) (fun c_1 => ?_) (fun c_1 => ?_)
  · refine lv_iconst (v := 0) hx hb dX1_fit_24 (by decide) ?_
    exact kx_out (vx_runS (As := [.int 0]) (rest := []) ⟨hx, hb, hml, hown, hts⟩ (tX_require l D cI cD cL tR tC s.heap.size false (by decide) (by first | assumption | omega)) (va_cwS 1 hts (lw_S q333 q334 q50 q335) rfl rfl rfl (by decide +kernel) ⟨Nat.le_of_ble_eq_true rfl, Nat.le_of_ble_eq_true rfl⟩) (pS_ (wc := []) hK hP hD hS hA hE [] rfl rfl rfl) rfl rfl hl.1 rfl (lv_room (Nat.le_of_ble_eq_true rfl)) dX1_fit_25 ⟨(Nat.le_of_ble_eq_true rfl), (Nat.le_of_ble_eq_true rfl)⟩) hS hout hlocks rfl rfl
  · exact absurd c_1 ht

set_option maxHeartbeats 4000000 in
set_option maxRecDepth 100000 in
theorem tX_fit2 (l : Launch) (D : va_G) (cI cD cL : ClassId) (tR tC sz : Nat) (ad : Nat → Nat) (n : Nat) (fi : Nat → Int32) (fo : Nat → Int32) (fw : Nat → Int32) (fe : Nat → UInt64) (d : Int32) (hs : Int64) (th : Int32) (li : Int32) (ht : decide (0 ≤ th ∧ th ≤ 100000) = true) (hv : ¬ decide (1 ≤ li ∧ li ≤ 100) = true) (hfl : l.stackTraces = false) : xThr l yX1_fit (ws_ yX1_fit cX1_fit 6 (some .int)) ({ frames := 7, cells := 1, slots := 6, locals := 101 } : Room) (pX [.ref (ad 0), .int th, .int li] D [(ad 0, .inr (0, [.ref (ad 1), .ref (ad 2), .int (nI n), .ref (ad 3), .ref (ad 4), .ref (ad 5), .ref (ad 6), .int d, .long hs])), (ad 1, .inr (1, [])), (ad 2, .inr (2, [])), (ad 3, .inl (cI, 6, .inl fi)), (ad 4, .inl (cI, 6, .inl fo)), (ad 5, .inl (cI, 36, .inl fw)), (ad 6, .inl (cD, 36, .inr (.inr (.inr (.inl fe)))))] cI cD cL tR tC sz) "java/lang/IllegalArgumentException" := by
  refine mT_ (by decide +kernel) (Nat.le_of_ble_eq_true rfl) ?_
  intro p e s m below meth c A hx hb hr hml hown hts hK hA hE hlocks hin hsz hP hD hS hout ls hl
  have hown : s.vm.findClass RX1 = some m.cls := hown
  have hl : lv_has ls 6 [(0, .ref (ad 0)), (1, .int th), (2, .int li)] := hl
  refine lv_iload_n hx hb dX1_fit_0 rfl (lv_at hl 1 rfl) ?_
  refine lv_iconst (v := 0) hx hb dX1_fit_1 (by decide) ?_
  refine lv_ldc (v := 100000) hx hb hown (hts _ q583) dX1_fit_2 ?_
  refine kr_i (va_runS (As := [.int th, .int 0, .int 100000]) (rest := []) ⟨hx, hb, hml, hown, hts⟩ (mX_inRange l D cI cD cL tR tC s.heap.size th 0 100000) (va_cwS 3 hts (lw_S q330 q331 q50 q332) rfl rfl rfl (by decide +kernel) ⟨Nat.le_of_ble_eq_true rfl, Nat.le_of_ble_eq_true rfl⟩) (pS_ (wc := []) hK hP hD hS hA hE [] rfl rfl rfl) rfl rfl hl.1 rfl (lv_room (Nat.le_of_ble_eq_true rfl)) dX1_fit_4 ⟨(Nat.le_of_ble_eq_true rfl), (Nat.le_of_ble_eq_true rfl)⟩) ?_
  refine w_if_eqB hx hb (decide (0 ≤ th ∧ th ≤ 100000)) (tgt := 24) dX1_fit_7 (by decide) (fun c_1 => ?_) (fun c_1 => ?_)
  · exact absurd ht c_1
  · refine lv_iload_n hx hb dX1_fit_10 rfl (lv_at hl 2 rfl) ?_
    refine lv_iconst (v := 1) hx hb dX1_fit_11 (by decide) ?_
    refine lv_bipush (v := 100) hx hb dX1_fit_12 (by decide) ?_
    refine kr_i (va_runS (As := [.int li, .int 1, .int 100]) (rest := []) ⟨hx, hb, hml, hown, hts⟩ (mX_inRange l D cI cD cL tR tC s.heap.size li 1 100) (va_cwS 3 hts (lw_S q330 q331 q50 q332) rfl rfl rfl (by decide +kernel) ⟨Nat.le_of_ble_eq_true rfl, Nat.le_of_ble_eq_true rfl⟩) (pS_ (wc := []) hK hP hD hS hA hE [] rfl rfl rfl) rfl rfl hl.1 rfl (lv_room (Nat.le_of_ble_eq_true rfl)) dX1_fit_14 ⟨(Nat.le_of_ble_eq_true rfl), (Nat.le_of_ble_eq_true rfl)⟩) ?_
    refine w_if_eqB hx hb (decide (1 ≤ li ∧ li ≤ 100)) (tgt := 24) dX1_fit_17 (by decide) (fun c_2 => ?_) (fun c_2 => ?_)
    · refine lv_iconst (v := 0) hx hb dX1_fit_24 (by decide) ?_
      exact kx_out (vx_runS (As := [.int 0]) (rest := []) ⟨hx, hb, hml, hown, hts⟩ (tX_require l D cI cD cL tR tC s.heap.size false (by decide) (by first | assumption | omega)) (va_cwS 1 hts (lw_S q333 q334 q50 q335) rfl rfl rfl (by decide +kernel) ⟨Nat.le_of_ble_eq_true rfl, Nat.le_of_ble_eq_true rfl⟩) (pS_ (wc := []) hK hP hD hS hA hE [] rfl rfl rfl) rfl rfl hl.1 rfl (lv_room (Nat.le_of_ble_eq_true rfl)) dX1_fit_25 ⟨(Nat.le_of_ble_eq_true rfl), (Nat.le_of_ble_eq_true rfl)⟩) hS hout hlocks rfl rfl
    · exact absurd c_2 hv

set_option maxHeartbeats 4000000 in
set_option maxRecDepth 100000 in
theorem mX_estimate (l : Launch) (D : va_G) (cI cD cL : ClassId) (tR tC sz : Nat) (ad : Nat → Nat) (n : Nat) (fi : Nat → Int32) (fo : Nat → Int32) (fw : Nat → Int32) (fe : Nat → UInt64) (d : Int32) (hs : Int64) (k : Nat) (t : Nat) (hn : n ≤ 6) (hk : k < n) (ht : t < n) : Met l yX1_estimate (ws_ yX1_estimate cX1_estimate 3 (some .double)) ({ frames := 3, cells := 0, slots := 0, locals := 65 } : Room) (pX [.ref (ad 0), .int (nI k), .int (nI t)] D [(ad 0, .inr (0, [.ref (ad 1), .ref (ad 2), .int (nI n), .ref (ad 3), .ref (ad 4), .ref (ad 5), .ref (ad 6), .int d, .long hs])), (ad 1, .inr (1, [])), (ad 2, .inr (2, [])), (ad 3, .inl (cI, 6, .inl fi)), (ad 4, .inl (cI, 6, .inl fo)), (ad 5, .inl (cI, 36, .inl fw)), (ad 6, .inl (cD, 36, .inr (.inr (.inr (.inl fe)))))] cI cD cL tR tC sz) (rD (fe (6 * k + t))) 0 0 (fun _ => False) := by
  refine mR_ (by decide +kernel) (Nat.le_of_ble_eq_true rfl) ?_
  intro p e s m below meth c A hx hb hr hml hown hts hK hA hE hlocks hin hsz hP hD hS ls hl
  have hown : s.vm.findClass RX1 = some m.cls := hown
  have hl : lv_has ls 3 [(0, .ref (ad 0)), (1, .int (nI k)), (2, .int (nI t))] := hl
  refine lv_aload_n hx hb dX1_estimate_0 rfl (lv_at hl 0 rfl) ?_
  refine lv_iload_n hx hb dX1_estimate_1 rfl (lv_at hl 1 rfl) ?_
  refine lv_iload_n hx hb dX1_estimate_2 rfl (lv_at hl 2 rfl) ?_
  refine kr_v (va_runV (As := [.int (nI k), .int (nI t)]) (rest := []) ⟨hx, hb, hml, hown, hts⟩ (mX_requireTurn l D cI cD cL tR tC s.heap.size ad n fi fo fw fe d hs (nI k) (nI t) (okArm_nat hk hn) (okArm_nat ht hn)) (cwV 2 hts (lw_V q479 q481 qs20 q50 q482) rfl rfl rfl (by decide +kernel) ⟨Nat.le_of_ble_eq_true rfl, Nat.le_of_ble_eq_true rfl⟩) (pV_ (wc := [(ad 0, .inr (0, [.ref (ad 1), .ref (ad 2), .int (nI n), .ref (ad 3), .ref (ad 4), .ref (ad 5), .ref (ad 6), .int d, .long hs])), (ad 1, .inr (1, [])), (ad 2, .inr (2, [])), (ad 3, .inl (cI, 6, .inl fi)), (ad 4, .inl (cI, 6, .inl fo)), (ad 5, .inl (cI, 36, .inl fw)), (ad 6, .inl (cD, 36, .inr (.inr (.inr (.inl fe)))))]) (va_recv hK hP (ci := 0) (q0 := 0) rfl rfl) hK hP hD hS hA hE [0, 1, 2, 3, 4, 5, 6] rfl rfl rfl) rfl rfl hl.1 rfl (lv_room (Nat.le_of_ble_eq_true rfl)) dX1_estimate_3 ⟨(Nat.le_of_ble_eq_true rfl), (Nat.le_of_ble_eq_true rfl)⟩) ?_
  refine lv_aload_n hx hb dX1_estimate_6 rfl (lv_at hl 0 rfl) ?_
  refine va_get (D := D) (ci := 0) (v := .ref (ad 6)) (C := RX1) (T := TX1) (N := 9) hx hb hts in_X1 hown hK hP 0 rfl rfl 6 (by decide) (hts _ q116) (fun _ h9 => h9) rfl dX1_estimate_7 ?_
  refine lv_bipush (v := 6) hx hb dX1_estimate_10 (by decide) ?_
  refine lv_iload_n hx hb dX1_estimate_12 rfl (lv_at hl 1 rfl) ?_
  refine w_imulN hx hb 6 k dX1_estimate_13 ?_
  refine lv_iload_n hx hb dX1_estimate_14 rfl (lv_at hl 2 rfl) ?_
  refine w_iaddN hx hb (6 * k) t dX1_estimate_15 ?_
  refine w_dald hx hb hK hP 6 1 rfl rfl ((6 * k) + t) (by omega) (by decide) dX1_estimate_16 ?_
  exact er_d hx hb hr hlocks rfl dX1_estimate_17

set_option maxHeartbeats 4000000 in
set_option maxRecDepth 100000 in
theorem tX_estimate1 (l : Launch) (D : va_G) (cI cD cL : ClassId) (tR tC sz : Nat) (ad : Nat → Nat) (n : Nat) (fi : Nat → Int32) (fo : Nat → Int32) (fw : Nat → Int32) (fe : Nat → UInt64) (d : Int32) (hs : Int64) (fr : Int32) (to : Int32) (hok1 : ¬ decide (0 ≤ fr ∧ fr ≤ nI n - 1) = true) (hfl : l.stackTraces = false) : xThr l yX1_estimate (ws_ yX1_estimate cX1_estimate 3 (some .double)) ({ frames := 8, cells := 1, slots := 6, locals := 124 } : Room) (pX [.ref (ad 0), .int fr, .int to] D [(ad 0, .inr (0, [.ref (ad 1), .ref (ad 2), .int (nI n), .ref (ad 3), .ref (ad 4), .ref (ad 5), .ref (ad 6), .int d, .long hs])), (ad 1, .inr (1, [])), (ad 2, .inr (2, [])), (ad 3, .inl (cI, 6, .inl fi)), (ad 4, .inl (cI, 6, .inl fo)), (ad 5, .inl (cI, 36, .inl fw)), (ad 6, .inl (cD, 36, .inr (.inr (.inr (.inl fe)))))] cI cD cL tR tC sz) "java/lang/IndexOutOfBoundsException" := by
  refine mT_ (by decide +kernel) (Nat.le_of_ble_eq_true rfl) ?_
  intro p e s m below meth c A hx hb hr hml hown hts hK hA hE hlocks hin hsz hP hD hS hout ls hl
  have hown : s.vm.findClass RX1 = some m.cls := hown
  have hl : lv_has ls 3 [(0, .ref (ad 0)), (1, .int fr), (2, .int to)] := hl
  refine lv_aload_n hx hb dX1_estimate_0 rfl (lv_at hl 0 rfl) ?_
  refine lv_iload_n hx hb dX1_estimate_1 rfl (lv_at hl 1 rfl) ?_
  refine lv_iload_n hx hb dX1_estimate_2 rfl (lv_at hl 2 rfl) ?_
  exact kx_out (vx_runV (As := [.int fr, .int to]) (rest := []) ⟨hx, hb, hml, hown, hts⟩ (tX_requireTurn1 l D cI cD cL tR tC s.heap.size ad n fi fo fw fe d hs fr to (by first | assumption | omega) (by first | assumption | omega)) (cwV 2 hts (lw_V q479 q481 qs20 q50 q482) rfl rfl rfl (by decide +kernel) ⟨Nat.le_of_ble_eq_true rfl, Nat.le_of_ble_eq_true rfl⟩) (pV_ (wc := [(ad 0, .inr (0, [.ref (ad 1), .ref (ad 2), .int (nI n), .ref (ad 3), .ref (ad 4), .ref (ad 5), .ref (ad 6), .int d, .long hs])), (ad 1, .inr (1, [])), (ad 2, .inr (2, [])), (ad 3, .inl (cI, 6, .inl fi)), (ad 4, .inl (cI, 6, .inl fo)), (ad 5, .inl (cI, 36, .inl fw)), (ad 6, .inl (cD, 36, .inr (.inr (.inr (.inl fe)))))]) (va_recv hK hP (ci := 0) (q0 := 0) rfl rfl) hK hP hD hS hA hE [0, 1, 2, 3, 4, 5, 6] rfl rfl rfl) rfl rfl hl.1 rfl (lv_room (Nat.le_of_ble_eq_true rfl)) dX1_estimate_3 ⟨(Nat.le_of_ble_eq_true rfl), (Nat.le_of_ble_eq_true rfl)⟩) hS hout hlocks rfl rfl

set_option maxHeartbeats 4000000 in
set_option maxRecDepth 100000 in
theorem tX_estimate2 (l : Launch) (D : va_G) (cI cD cL : ClassId) (tR tC sz : Nat) (ad : Nat → Nat) (n : Nat) (fi : Nat → Int32) (fo : Nat → Int32) (fw : Nat → Int32) (fe : Nat → UInt64) (d : Int32) (hs : Int64) (fr : Int32) (to : Int32) (hok1 : decide (0 ≤ fr ∧ fr ≤ nI n - 1) = true) (hok2 : ¬ decide (0 ≤ to ∧ to ≤ nI n - 1) = true) (hfl : l.stackTraces = false) : xThr l yX1_estimate (ws_ yX1_estimate cX1_estimate 3 (some .double)) ({ frames := 8, cells := 1, slots := 6, locals := 124 } : Room) (pX [.ref (ad 0), .int fr, .int to] D [(ad 0, .inr (0, [.ref (ad 1), .ref (ad 2), .int (nI n), .ref (ad 3), .ref (ad 4), .ref (ad 5), .ref (ad 6), .int d, .long hs])), (ad 1, .inr (1, [])), (ad 2, .inr (2, [])), (ad 3, .inl (cI, 6, .inl fi)), (ad 4, .inl (cI, 6, .inl fo)), (ad 5, .inl (cI, 36, .inl fw)), (ad 6, .inl (cD, 36, .inr (.inr (.inr (.inl fe)))))] cI cD cL tR tC sz) "java/lang/IndexOutOfBoundsException" := by
  refine mT_ (by decide +kernel) (Nat.le_of_ble_eq_true rfl) ?_
  intro p e s m below meth c A hx hb hr hml hown hts hK hA hE hlocks hin hsz hP hD hS hout ls hl
  have hown : s.vm.findClass RX1 = some m.cls := hown
  have hl : lv_has ls 3 [(0, .ref (ad 0)), (1, .int fr), (2, .int to)] := hl
  refine lv_aload_n hx hb dX1_estimate_0 rfl (lv_at hl 0 rfl) ?_
  refine lv_iload_n hx hb dX1_estimate_1 rfl (lv_at hl 1 rfl) ?_
  refine lv_iload_n hx hb dX1_estimate_2 rfl (lv_at hl 2 rfl) ?_
  exact kx_out (vx_runV (As := [.int fr, .int to]) (rest := []) ⟨hx, hb, hml, hown, hts⟩ (tX_requireTurn2 l D cI cD cL tR tC s.heap.size ad n fi fo fw fe d hs fr to (by first | assumption | omega) (by first | assumption | omega) (by first | assumption | omega)) (cwV 2 hts (lw_V q479 q481 qs20 q50 q482) rfl rfl rfl (by decide +kernel) ⟨Nat.le_of_ble_eq_true rfl, Nat.le_of_ble_eq_true rfl⟩) (pV_ (wc := [(ad 0, .inr (0, [.ref (ad 1), .ref (ad 2), .int (nI n), .ref (ad 3), .ref (ad 4), .ref (ad 5), .ref (ad 6), .int d, .long hs])), (ad 1, .inr (1, [])), (ad 2, .inr (2, [])), (ad 3, .inl (cI, 6, .inl fi)), (ad 4, .inl (cI, 6, .inl fo)), (ad 5, .inl (cI, 36, .inl fw)), (ad 6, .inl (cD, 36, .inr (.inr (.inr (.inl fe)))))]) (va_recv hK hP (ci := 0) (q0 := 0) rfl rfl) hK hP hD hS hA hE [0, 1, 2, 3, 4, 5, 6] rfl rfl rfl) rfl rfl hl.1 rfl (lv_room (Nat.le_of_ble_eq_true rfl)) dX1_estimate_3 ⟨(Nat.le_of_ble_eq_true rfl), (Nat.le_of_ble_eq_true rfl)⟩) hS hout hlocks rfl rfl

set_option maxHeartbeats 4000000 in
set_option maxRecDepth 100000 in
theorem tX_share1 (l : Launch) (D : va_G) (cI cD cL : ClassId) (tR tC sz : Nat) (ad : Nat → Nat) (n : Nat) (fi : Nat → Int32) (fo : Nat → Int32) (fw : Nat → Int32) (fe : Nat → UInt64) (d : Int32) (hs : Int64) (fr : Int32) (to : Int32) (hok1 : ¬ decide (0 ≤ fr ∧ fr ≤ nI n - 1) = true) (hfl : l.stackTraces = false) : xThr l yX1_share (ws_ yX1_share cX1_share 5 (some .double)) ({ frames := 8, cells := 1, slots := 6, locals := 124 } : Room) (pX [.ref (ad 0), .int fr, .int to] D [(ad 0, .inr (0, [.ref (ad 1), .ref (ad 2), .int (nI n), .ref (ad 3), .ref (ad 4), .ref (ad 5), .ref (ad 6), .int d, .long hs])), (ad 1, .inr (1, [])), (ad 2, .inr (2, [])), (ad 3, .inl (cI, 6, .inl fi)), (ad 4, .inl (cI, 6, .inl fo)), (ad 5, .inl (cI, 36, .inl fw)), (ad 6, .inl (cD, 36, .inr (.inr (.inr (.inl fe)))))] cI cD cL tR tC sz) "java/lang/IndexOutOfBoundsException" := by
  refine mT_ (by decide +kernel) (Nat.le_of_ble_eq_true rfl) ?_
  intro p e s m below meth c A hx hb hr hml hown hts hK hA hE hlocks hin hsz hP hD hS hout ls hl
  have hown : s.vm.findClass RX1 = some m.cls := hown
  have hl : lv_has ls 5 [(0, .ref (ad 0)), (1, .int fr), (2, .int to)] := hl
  refine lv_aload_n hx hb dX1_share_0 rfl (lv_at hl 0 rfl) ?_
  refine lv_iload_n hx hb dX1_share_1 rfl (lv_at hl 1 rfl) ?_
  refine lv_iload_n hx hb dX1_share_2 rfl (lv_at hl 2 rfl) ?_
  exact kx_out (vx_runV (As := [.int fr, .int to]) (rest := []) ⟨hx, hb, hml, hown, hts⟩ (tX_requireTurn1 l D cI cD cL tR tC s.heap.size ad n fi fo fw fe d hs fr to (by first | assumption | omega) (by first | assumption | omega)) (cwV 2 hts (lw_V q479 q481 qs20 q50 q482) rfl rfl rfl (by decide +kernel) ⟨Nat.le_of_ble_eq_true rfl, Nat.le_of_ble_eq_true rfl⟩) (pV_ (wc := [(ad 0, .inr (0, [.ref (ad 1), .ref (ad 2), .int (nI n), .ref (ad 3), .ref (ad 4), .ref (ad 5), .ref (ad 6), .int d, .long hs])), (ad 1, .inr (1, [])), (ad 2, .inr (2, [])), (ad 3, .inl (cI, 6, .inl fi)), (ad 4, .inl (cI, 6, .inl fo)), (ad 5, .inl (cI, 36, .inl fw)), (ad 6, .inl (cD, 36, .inr (.inr (.inr (.inl fe)))))]) (va_recv hK hP (ci := 0) (q0 := 0) rfl rfl) hK hP hD hS hA hE [0, 1, 2, 3, 4, 5, 6] rfl rfl rfl) rfl rfl hl.1 rfl (lv_room (Nat.le_of_ble_eq_true rfl)) dX1_share_3 ⟨(Nat.le_of_ble_eq_true rfl), (Nat.le_of_ble_eq_true rfl)⟩) hS hout hlocks rfl rfl

set_option maxHeartbeats 4000000 in
set_option maxRecDepth 100000 in
theorem tX_share2 (l : Launch) (D : va_G) (cI cD cL : ClassId) (tR tC sz : Nat) (ad : Nat → Nat) (n : Nat) (fi : Nat → Int32) (fo : Nat → Int32) (fw : Nat → Int32) (fe : Nat → UInt64) (d : Int32) (hs : Int64) (fr : Int32) (to : Int32) (hok1 : decide (0 ≤ fr ∧ fr ≤ nI n - 1) = true) (hok2 : ¬ decide (0 ≤ to ∧ to ≤ nI n - 1) = true) (hfl : l.stackTraces = false) : xThr l yX1_share (ws_ yX1_share cX1_share 5 (some .double)) ({ frames := 8, cells := 1, slots := 6, locals := 124 } : Room) (pX [.ref (ad 0), .int fr, .int to] D [(ad 0, .inr (0, [.ref (ad 1), .ref (ad 2), .int (nI n), .ref (ad 3), .ref (ad 4), .ref (ad 5), .ref (ad 6), .int d, .long hs])), (ad 1, .inr (1, [])), (ad 2, .inr (2, [])), (ad 3, .inl (cI, 6, .inl fi)), (ad 4, .inl (cI, 6, .inl fo)), (ad 5, .inl (cI, 36, .inl fw)), (ad 6, .inl (cD, 36, .inr (.inr (.inr (.inl fe)))))] cI cD cL tR tC sz) "java/lang/IndexOutOfBoundsException" := by
  refine mT_ (by decide +kernel) (Nat.le_of_ble_eq_true rfl) ?_
  intro p e s m below meth c A hx hb hr hml hown hts hK hA hE hlocks hin hsz hP hD hS hout ls hl
  have hown : s.vm.findClass RX1 = some m.cls := hown
  have hl : lv_has ls 5 [(0, .ref (ad 0)), (1, .int fr), (2, .int to)] := hl
  refine lv_aload_n hx hb dX1_share_0 rfl (lv_at hl 0 rfl) ?_
  refine lv_iload_n hx hb dX1_share_1 rfl (lv_at hl 1 rfl) ?_
  refine lv_iload_n hx hb dX1_share_2 rfl (lv_at hl 2 rfl) ?_
  exact kx_out (vx_runV (As := [.int fr, .int to]) (rest := []) ⟨hx, hb, hml, hown, hts⟩ (tX_requireTurn2 l D cI cD cL tR tC s.heap.size ad n fi fo fw fe d hs fr to (by first | assumption | omega) (by first | assumption | omega) (by first | assumption | omega)) (cwV 2 hts (lw_V q479 q481 qs20 q50 q482) rfl rfl rfl (by decide +kernel) ⟨Nat.le_of_ble_eq_true rfl, Nat.le_of_ble_eq_true rfl⟩) (pV_ (wc := [(ad 0, .inr (0, [.ref (ad 1), .ref (ad 2), .int (nI n), .ref (ad 3), .ref (ad 4), .ref (ad 5), .ref (ad 6), .int d, .long hs])), (ad 1, .inr (1, [])), (ad 2, .inr (2, [])), (ad 3, .inl (cI, 6, .inl fi)), (ad 4, .inl (cI, 6, .inl fo)), (ad 5, .inl (cI, 36, .inl fw)), (ad 6, .inl (cD, 36, .inr (.inr (.inr (.inl fe)))))]) (va_recv hK hP (ci := 0) (q0 := 0) rfl rfl) hK hP hD hS hA hE [0, 1, 2, 3, 4, 5, 6] rfl rfl rfl) rfl rfl hl.1 rfl (lv_room (Nat.le_of_ble_eq_true rfl)) dX1_share_3 ⟨(Nat.le_of_ble_eq_true rfl), (Nat.le_of_ble_eq_true rfl)⟩) hS hout hlocks rfl rfl

set_option maxHeartbeats 4000000 in
set_option maxRecDepth 100000 in
theorem mX_sumR (l : Launch) (D : va_G) (cI cD cL : ClassId) (tR tC sz : Nat) (ad : Nat → Nat) (n : Nat) (fi : Nat → Int32) (fo : Nat → Int32) (fw : Nat → Int32) (fe : Nat → UInt64) (d : Int32) (hs : Int64) (k : Nat) (cl : Bool) (hn : n ≤ 6) (hk : k < n) (hcl : ¬ cl = true) (hok : okSum (rowG fe k) n) : Met l yX1_sum (ws_ yX1_sum cX1_sum 3 (some .double)) ({ frames := 2, cells := 0, slots := 0, locals := 48 } : Room) (pX [.ref (ad 0), .int (nI k), .int (bI cl)] D [(ad 0, .inr (0, [.ref (ad 1), .ref (ad 2), .int (nI n), .ref (ad 3), .ref (ad 4), .ref (ad 5), .ref (ad 6), .int d, .long hs])), (ad 1, .inr (1, [])), (ad 2, .inr (2, [])), (ad 3, .inl (cI, 6, .inl fi)), (ad 4, .inl (cI, 6, .inl fo)), (ad 5, .inl (cI, 36, .inl fw)), (ad 6, .inl (cD, 36, .inr (.inr (.inr (.inl fe)))))] cI cD cL tR tC sz) (rD (dsum (rowG fe k) n)) 0 0 (fun _ => False) := by
  refine mR_ (by decide +kernel) (Nat.le_of_ble_eq_true rfl) ?_
  intro p e s m below meth c A hx hb hr hml hown hts hK hA hE hlocks hin hsz hP hD hS ls hl
  have hown : s.vm.findClass RX1 = some m.cls := hown
  have hl : lv_has ls 3 [(0, .ref (ad 0)), (1, .int (nI k)), (2, .int (bI cl))] := hl
  refine lv_aload_n hx hb dX1_sum_0 rfl (lv_at hl 0 rfl) ?_
  refine lv_iload_n hx hb dX1_sum_1 rfl (lv_at hl 1 rfl) ?_
  refine kr_v (va_runV (As := [.int (nI k)]) (rest := []) ⟨hx, hb, hml, hown, hts⟩ (mX_requireArm l D cI cD cL tR tC s.heap.size ad n fi fo fw fe d hs (nI k) (okArm_nat hk hn)) (cwV 1 hts (lw_V q446 q448 qs19 q50 q449) rfl rfl rfl (by decide +kernel) ⟨Nat.le_of_ble_eq_true rfl, Nat.le_of_ble_eq_true rfl⟩) (pV_ (wc := [(ad 0, .inr (0, [.ref (ad 1), .ref (ad 2), .int (nI n), .ref (ad 3), .ref (ad 4), .ref (ad 5), .ref (ad 6), .int d, .long hs])), (ad 1, .inr (1, [])), (ad 2, .inr (2, [])), (ad 3, .inl (cI, 6, .inl fi)), (ad 4, .inl (cI, 6, .inl fo)), (ad 5, .inl (cI, 36, .inl fw)), (ad 6, .inl (cD, 36, .inr (.inr (.inr (.inl fe)))))]) (va_recv hK hP (ci := 0) (q0 := 0) rfl rfl) hK hP hD hS hA hE [0, 1, 2, 3, 4, 5, 6] rfl rfl rfl) rfl rfl hl.1 rfl (lv_room (Nat.le_of_ble_eq_true rfl)) dX1_sum_2 ⟨(Nat.le_of_ble_eq_true rfl), (Nat.le_of_ble_eq_true rfl)⟩) ?_
  refine lv_iload_n hx hb dX1_sum_5 rfl (lv_at hl 2 rfl) ?_
  refine w_if_eqB hx hb cl (tgt := 15) dX1_sum_6 (by decide) (fun c_1 => ?_) (fun c_1 => ?_)
  · refine va_gets hx hb hE.1 hS hown (hts _ q194) (fun _ h9 => h9) dX1_sum_15 ?_
    refine lv_aload_n hx hb dX1_sum_18 rfl (lv_at hl 0 rfl) ?_
    refine va_get (D := D) (ci := 0) (v := .ref (ad 6)) (C := RX1) (T := TX1) (N := 9) hx hb hts in_X1 hown hK hP 0 rfl rfl 6 (by decide) (hts _ q116) (fun _ h9 => h9) rfl dX1_sum_19 ?_
    refine lv_iload_n hx hb dX1_sum_22 rfl (lv_at hl 1 rfl) ?_
    refine lv_aload_n hx hb dX1_sum_23 rfl (lv_at hl 0 rfl) ?_
    refine va_get (D := D) (ci := 0) (v := .int (nI n)) (C := RX1) (T := TX1) (N := 9) hx hb hts in_X1 hown hK hP 0 rfl rfl 2 (by decide) (hts _ q103) (fun _ h9 => h9) rfl dX1_sum_24 ?_
    refine kr_d (va_runU (As := [.ref (ad 6), .int (nI k), .int (nI n)]) (rest := []) (C := "TurnEstimator$Side$1") (owner := RX5) (x := yX5_sum) ⟨hx, hb, hml, hown, hts⟩ (mX_side_sumR l D cI cD cL tR tC s.heap.size (ad 6) k n fe (by first | assumption | omega) (by first | assumption | omega) hok) (va_cwU 3 hts (lw_U (C := "TurnEstimator$Side$1") (owner := RX5) (x := yX5_sum) q196 q198 q199 q197 q63 q201) rfl rfl rfl rfl (by decide +kernel) ⟨Nat.le_of_ble_eq_true rfl, Nat.le_of_ble_eq_true rfl⟩) (pV_ (wc := [((ad 6), .inl (cD, 36, .inr (.inr (.inr (.inl fe)))))]) (va_Orecv hE.2.2.1 hS) hK hP hD hS hA hE [6] rfl rfl rfl) rfl rfl hl.1 rfl (lv_room (Nat.le_of_ble_eq_true rfl)) dX1_sum_27 ⟨(Nat.le_of_ble_eq_true rfl), (Nat.le_of_ble_eq_true rfl)⟩) ?_
    exact er_d hx hb hr hlocks rfl dX1_sum_30
  · exact absurd c_1 hcl

set_option maxHeartbeats 4000000 in
set_option maxRecDepth 100000 in
theorem mX_sumC (l : Launch) (D : va_G) (cI cD cL : ClassId) (tR tC sz : Nat) (ad : Nat → Nat) (n : Nat) (fi : Nat → Int32) (fo : Nat → Int32) (fw : Nat → Int32) (fe : Nat → UInt64) (d : Int32) (hs : Int64) (k : Nat) (cl : Bool) (hn : n ≤ 6) (hk : k < n) (hcl : cl = true) (hok : okSum (colG fe k) n) : Met l yX1_sum (ws_ yX1_sum cX1_sum 3 (some .double)) ({ frames := 2, cells := 0, slots := 0, locals := 48 } : Room) (pX [.ref (ad 0), .int (nI k), .int (bI cl)] D [(ad 0, .inr (0, [.ref (ad 1), .ref (ad 2), .int (nI n), .ref (ad 3), .ref (ad 4), .ref (ad 5), .ref (ad 6), .int d, .long hs])), (ad 1, .inr (1, [])), (ad 2, .inr (2, [])), (ad 3, .inl (cI, 6, .inl fi)), (ad 4, .inl (cI, 6, .inl fo)), (ad 5, .inl (cI, 36, .inl fw)), (ad 6, .inl (cD, 36, .inr (.inr (.inr (.inl fe)))))] cI cD cL tR tC sz) (rD (dsum (colG fe k) n)) 0 0 (fun _ => False) := by
  refine mR_ (by decide +kernel) (Nat.le_of_ble_eq_true rfl) ?_
  intro p e s m below meth c A hx hb hr hml hown hts hK hA hE hlocks hin hsz hP hD hS ls hl
  have hown : s.vm.findClass RX1 = some m.cls := hown
  have hl : lv_has ls 3 [(0, .ref (ad 0)), (1, .int (nI k)), (2, .int (bI cl))] := hl
  refine lv_aload_n hx hb dX1_sum_0 rfl (lv_at hl 0 rfl) ?_
  refine lv_iload_n hx hb dX1_sum_1 rfl (lv_at hl 1 rfl) ?_
  refine kr_v (va_runV (As := [.int (nI k)]) (rest := []) ⟨hx, hb, hml, hown, hts⟩ (mX_requireArm l D cI cD cL tR tC s.heap.size ad n fi fo fw fe d hs (nI k) (okArm_nat hk hn)) (cwV 1 hts (lw_V q446 q448 qs19 q50 q449) rfl rfl rfl (by decide +kernel) ⟨Nat.le_of_ble_eq_true rfl, Nat.le_of_ble_eq_true rfl⟩) (pV_ (wc := [(ad 0, .inr (0, [.ref (ad 1), .ref (ad 2), .int (nI n), .ref (ad 3), .ref (ad 4), .ref (ad 5), .ref (ad 6), .int d, .long hs])), (ad 1, .inr (1, [])), (ad 2, .inr (2, [])), (ad 3, .inl (cI, 6, .inl fi)), (ad 4, .inl (cI, 6, .inl fo)), (ad 5, .inl (cI, 36, .inl fw)), (ad 6, .inl (cD, 36, .inr (.inr (.inr (.inl fe)))))]) (va_recv hK hP (ci := 0) (q0 := 0) rfl rfl) hK hP hD hS hA hE [0, 1, 2, 3, 4, 5, 6] rfl rfl rfl) rfl rfl hl.1 rfl (lv_room (Nat.le_of_ble_eq_true rfl)) dX1_sum_2 ⟨(Nat.le_of_ble_eq_true rfl), (Nat.le_of_ble_eq_true rfl)⟩) ?_
  refine lv_iload_n hx hb dX1_sum_5 rfl (lv_at hl 2 rfl) ?_
  refine w_if_eqB hx hb cl (tgt := 15) dX1_sum_6 (by decide) (fun c_1 => ?_) (fun c_1 => ?_)
  · exact absurd hcl c_1
  · refine va_gets hx hb hE.2.1 hS hown (hts _ q214) (fun _ h9 => h9) dX1_sum_9 ?_
    refine lv_goto (tgt := 18) hx hb dX1_sum_12 (by decide) ?_
    refine lv_aload_n hx hb dX1_sum_18 rfl (lv_at hl 0 rfl) ?_
    refine va_get (D := D) (ci := 0) (v := .ref (ad 6)) (C := RX1) (T := TX1) (N := 9) hx hb hts in_X1 hown hK hP 0 rfl rfl 6 (by decide) (hts _ q116) (fun _ h9 => h9) rfl dX1_sum_19 ?_
    refine lv_iload_n hx hb dX1_sum_22 rfl (lv_at hl 1 rfl) ?_
    refine lv_aload_n hx hb dX1_sum_23 rfl (lv_at hl 0 rfl) ?_
    refine va_get (D := D) (ci := 0) (v := .int (nI n)) (C := RX1) (T := TX1) (N := 9) hx hb hts in_X1 hown hK hP 0 rfl rfl 2 (by decide) (hts _ q103) (fun _ h9 => h9) rfl dX1_sum_24 ?_
    refine kr_d (va_runU (As := [.ref (ad 6), .int (nI k), .int (nI n)]) (rest := []) (C := "TurnEstimator$Side$2") (owner := RX5) (x := yX5_sum) ⟨hx, hb, hml, hown, hts⟩ (mX_side_sumC l D cI cD cL tR tC s.heap.size (ad 6) k n fe (by first | assumption | omega) (by first | assumption | omega) hok) (va_cwU 3 hts (lw_U (C := "TurnEstimator$Side$2") (owner := RX5) (x := yX5_sum) q196 q198 q200 q197 q63 q201) rfl rfl rfl rfl (by decide +kernel) ⟨Nat.le_of_ble_eq_true rfl, Nat.le_of_ble_eq_true rfl⟩) (pV_ (wc := [((ad 6), .inl (cD, 36, .inr (.inr (.inr (.inl fe)))))]) (va_Orecv hE.2.2.2.1 hS) hK hP hD hS hA hE [6] rfl rfl rfl) rfl rfl hl.1 rfl (lv_room (Nat.le_of_ble_eq_true rfl)) dX1_sum_27 ⟨(Nat.le_of_ble_eq_true rfl), (Nat.le_of_ble_eq_true rfl)⟩) ?_
    exact er_d hx hb hr hlocks rfl dX1_sum_30

set_option maxHeartbeats 4000000 in
set_option maxRecDepth 100000 in
theorem tX_sum (l : Launch) (D : va_G) (cI cD cL : ClassId) (tR tC sz : Nat) (ad : Nat → Nat) (n : Nat) (fi : Nat → Int32) (fo : Nat → Int32) (fw : Nat → Int32) (fe : Nat → UInt64) (d : Int32) (hs : Int64) (arm : Int32) (cl : Bool) (hok : ¬ decide (0 ≤ arm ∧ arm ≤ nI n - 1) = true) (hfl : l.stackTraces = false) : xThr l yX1_sum (ws_ yX1_sum cX1_sum 3 (some .double)) ({ frames := 7, cells := 1, slots := 6, locals := 102 } : Room) (pX [.ref (ad 0), .int arm, .int (bI cl)] D [(ad 0, .inr (0, [.ref (ad 1), .ref (ad 2), .int (nI n), .ref (ad 3), .ref (ad 4), .ref (ad 5), .ref (ad 6), .int d, .long hs])), (ad 1, .inr (1, [])), (ad 2, .inr (2, [])), (ad 3, .inl (cI, 6, .inl fi)), (ad 4, .inl (cI, 6, .inl fo)), (ad 5, .inl (cI, 36, .inl fw)), (ad 6, .inl (cD, 36, .inr (.inr (.inr (.inl fe)))))] cI cD cL tR tC sz) "java/lang/IndexOutOfBoundsException" := by
  refine mT_ (by decide +kernel) (Nat.le_of_ble_eq_true rfl) ?_
  intro p e s m below meth c A hx hb hr hml hown hts hK hA hE hlocks hin hsz hP hD hS hout ls hl
  have hown : s.vm.findClass RX1 = some m.cls := hown
  have hl : lv_has ls 3 [(0, .ref (ad 0)), (1, .int arm), (2, .int (bI cl))] := hl
  refine lv_aload_n hx hb dX1_sum_0 rfl (lv_at hl 0 rfl) ?_
  refine lv_iload_n hx hb dX1_sum_1 rfl (lv_at hl 1 rfl) ?_
  exact kx_out (vx_runV (As := [.int arm]) (rest := []) ⟨hx, hb, hml, hown, hts⟩ (tX_requireArm l D cI cD cL tR tC s.heap.size ad n fi fo fw fe d hs arm (by first | assumption | omega) (by first | assumption | omega)) (cwV 1 hts (lw_V q446 q448 qs19 q50 q449) rfl rfl rfl (by decide +kernel) ⟨Nat.le_of_ble_eq_true rfl, Nat.le_of_ble_eq_true rfl⟩) (pV_ (wc := [(ad 0, .inr (0, [.ref (ad 1), .ref (ad 2), .int (nI n), .ref (ad 3), .ref (ad 4), .ref (ad 5), .ref (ad 6), .int d, .long hs])), (ad 1, .inr (1, [])), (ad 2, .inr (2, [])), (ad 3, .inl (cI, 6, .inl fi)), (ad 4, .inl (cI, 6, .inl fo)), (ad 5, .inl (cI, 36, .inl fw)), (ad 6, .inl (cD, 36, .inr (.inr (.inr (.inl fe)))))]) (va_recv hK hP (ci := 0) (q0 := 0) rfl rfl) hK hP hD hS hA hE [0, 1, 2, 3, 4, 5, 6] rfl rfl rfl) rfl rfl hl.1 rfl (lv_room (Nat.le_of_ble_eq_true rfl)) dX1_sum_2 ⟨(Nat.le_of_ble_eq_true rfl), (Nat.le_of_ble_eq_true rfl)⟩) hS hout hlocks rfl rfl

set_option maxHeartbeats 4000000 in
set_option maxRecDepth 100000 in
theorem mX_share (l : Launch) (D : va_G) (cI cD cL : ClassId) (tR tC sz : Nat) (ad : Nat → Nat) (n : Nat) (fi : Nat → Int32) (fo : Nat → Int32) (fw : Nat → Int32) (fe : Nat → UInt64) (d : Int32) (hs : Int64) (k : Nat) (t : Nat) (hn : n ≤ 6) (hk : k < n) (ht : t < n) (hok : okSum (rowG fe k) n) (hsh : dgt (dsum (rowG fe k) n) FP.dconst0 = true → vf_n64 (FP.ddiv (fe (6 * k + t)) (dsum (rowG fe k) n))) : Met l yX1_share (ws_ yX1_share cX1_share 5 (some .double)) ({ frames := 3, cells := 0, slots := 0, locals := 65 } : Room) (pX [.ref (ad 0), .int (nI k), .int (nI t)] D [(ad 0, .inr (0, [.ref (ad 1), .ref (ad 2), .int (nI n), .ref (ad 3), .ref (ad 4), .ref (ad 5), .ref (ad 6), .int d, .long hs])), (ad 1, .inr (1, [])), (ad 2, .inr (2, [])), (ad 3, .inl (cI, 6, .inl fi)), (ad 4, .inl (cI, 6, .inl fo)), (ad 5, .inl (cI, 36, .inl fw)), (ad 6, .inl (cD, 36, .inr (.inr (.inr (.inl fe)))))] cI cD cL tR tC sz) (rD (shareX n fe k t)) 0 0 (fun _ => False) := by
  refine mR_ (by decide +kernel) (Nat.le_of_ble_eq_true rfl) ?_
  intro p e s m below meth c A hx hb hr hml hown hts hK hA hE hlocks hin hsz hP hD hS ls hl
  have hown : s.vm.findClass RX1 = some m.cls := hown
  have hl : lv_has ls 5 [(0, .ref (ad 0)), (1, .int (nI k)), (2, .int (nI t))] := hl
  refine lv_aload_n hx hb dX1_share_0 rfl (lv_at hl 0 rfl) ?_
  refine lv_iload_n hx hb dX1_share_1 rfl (lv_at hl 1 rfl) ?_
  refine lv_iload_n hx hb dX1_share_2 rfl (lv_at hl 2 rfl) ?_
  refine kr_v (va_runV (As := [.int (nI k), .int (nI t)]) (rest := []) ⟨hx, hb, hml, hown, hts⟩ (mX_requireTurn l D cI cD cL tR tC s.heap.size ad n fi fo fw fe d hs (nI k) (nI t) (okArm_nat hk hn) (okArm_nat ht hn)) (cwV 2 hts (lw_V q479 q481 qs20 q50 q482) rfl rfl rfl (by decide +kernel) ⟨Nat.le_of_ble_eq_true rfl, Nat.le_of_ble_eq_true rfl⟩) (pV_ (wc := [(ad 0, .inr (0, [.ref (ad 1), .ref (ad 2), .int (nI n), .ref (ad 3), .ref (ad 4), .ref (ad 5), .ref (ad 6), .int d, .long hs])), (ad 1, .inr (1, [])), (ad 2, .inr (2, [])), (ad 3, .inl (cI, 6, .inl fi)), (ad 4, .inl (cI, 6, .inl fo)), (ad 5, .inl (cI, 36, .inl fw)), (ad 6, .inl (cD, 36, .inr (.inr (.inr (.inl fe)))))]) (va_recv hK hP (ci := 0) (q0 := 0) rfl rfl) hK hP hD hS hA hE [0, 1, 2, 3, 4, 5, 6] rfl rfl rfl) rfl rfl hl.1 rfl (lv_room (Nat.le_of_ble_eq_true rfl)) dX1_share_3 ⟨(Nat.le_of_ble_eq_true rfl), (Nat.le_of_ble_eq_true rfl)⟩) ?_
  refine va_gets hx hb hE.1 hS hown (hts _ q194) (fun _ h9 => h9) dX1_share_6 ?_
  refine lv_aload_n hx hb dX1_share_9 rfl (lv_at hl 0 rfl) ?_
  refine va_get (D := D) (ci := 0) (v := .ref (ad 6)) (C := RX1) (T := TX1) (N := 9) hx hb hts in_X1 hown hK hP 0 rfl rfl 6 (by decide) (hts _ q116) (fun _ h9 => h9) rfl dX1_share_10 ?_
  refine lv_iload_n hx hb dX1_share_13 rfl (lv_at hl 1 rfl) ?_
  refine lv_aload_n hx hb dX1_share_14 rfl (lv_at hl 0 rfl) ?_
  refine va_get (D := D) (ci := 0) (v := .int (nI n)) (C := RX1) (T := TX1) (N := 9) hx hb hts in_X1 hown hK hP 0 rfl rfl 2 (by decide) (hts _ q103) (fun _ h9 => h9) rfl dX1_share_15 ?_
  refine kr_d (va_runU (As := [.ref (ad 6), .int (nI k), .int (nI n)]) (rest := []) (C := "TurnEstimator$Side$1") (owner := RX5) (x := yX5_sum) ⟨hx, hb, hml, hown, hts⟩ (mX_side_sumR l D cI cD cL tR tC s.heap.size (ad 6) k n fe (by first | assumption | omega) (by first | assumption | omega) hok) (va_cwU 3 hts (lw_U (C := "TurnEstimator$Side$1") (owner := RX5) (x := yX5_sum) q196 q198 q199 q197 q63 q201) rfl rfl rfl rfl (by decide +kernel) ⟨Nat.le_of_ble_eq_true rfl, Nat.le_of_ble_eq_true rfl⟩) (pV_ (wc := [((ad 6), .inl (cD, 36, .inr (.inr (.inr (.inl fe)))))]) (va_Orecv hE.2.2.1 hS) hK hP hD hS hA hE [6] rfl rfl rfl) rfl rfl hl.1 rfl (lv_room (Nat.le_of_ble_eq_true rfl)) dX1_share_18 ⟨(Nat.le_of_ble_eq_true rfl), (Nat.le_of_ble_eq_true rfl)⟩) ?_
  refine lv_dstore_n (lv' := [(3, .double (dsum (rowG fe k) n)), (0, .ref (ad 0)), (1, .int (nI k)), (2, .int (nI t))]) hx hb dX1_share_21 rfl hl (Nat.le_of_ble_eq_true rfl) rfl (fun ls hl => ?_)
  refine lv_dload_n hx hb dX1_share_22 rfl (lv_at hl 0 rfl) ?_
  refine lv_dconst0 hx hb dX1_share_23 ?_
  refine lv_dcmp hx hb dX1_share_24 ?_
  refine w_if_leD hx hb (dsum (rowG fe k) n) FP.dconst0 (tgt := 44) dX1_share_25 (by decide) (fun c_1 => ?_) (fun c_1 => ?_)
  · refine lv_dconst0 hx hb dX1_share_44 ?_
    exact er_d hx hb hr hlocks (by unfold shareX; first | rw [if_pos (by assumption)] | rw [if_neg (by assumption)]) dX1_share_45
  · refine lv_aload_n hx hb dX1_share_28 rfl (lv_at hl 1 rfl) ?_
    refine va_get (D := D) (ci := 0) (v := .ref (ad 6)) (C := RX1) (T := TX1) (N := 9) hx hb hts in_X1 hown hK hP 0 rfl rfl 6 (by decide) (hts _ q116) (fun _ h9 => h9) rfl dX1_share_29 ?_
    refine lv_bipush (v := 6) hx hb dX1_share_32 (by decide) ?_
    refine lv_iload_n hx hb dX1_share_34 rfl (lv_at hl 2 rfl) ?_
    refine w_imulN hx hb 6 k dX1_share_35 ?_
    refine lv_iload_n hx hb dX1_share_36 rfl (lv_at hl 3 rfl) ?_
    refine w_iaddN hx hb (6 * k) t dX1_share_37 ?_
    refine w_dald hx hb hK hP 6 1 rfl rfl ((6 * k) + t) (by omega) (by decide) dX1_share_38 ?_
    refine lv_dload_n hx hb dX1_share_39 rfl (lv_at hl 0 rfl) ?_
    refine lv_ddiv hx hb dX1_share_40 (hsh (by assumption)) ?_
    refine lv_goto (tgt := 45) hx hb dX1_share_41 (by decide) ?_
    exact er_d hx hb hr hlocks (by unfold shareX; first | rw [if_pos (by assumption)] | rw [if_neg (by assumption)]) dX1_share_45

set_option maxHeartbeats 4000000 in
set_option maxRecDepth 100000 in
theorem mX_product (l : Launch) (D : va_G) (cI cD cL : ClassId) (tR tC sz : Nat) (ad : Nat → Nat) (n : Nat) (fi : Nat → Int32) (fo : Nat → Int32) (fw : Nat → Int32) (fe : Nat → UInt64) (d : Int32) (hs : Int64) (k : Nat) (t : Nat) (u : Nat) (v : Nat) (hn : n ≤ 6) (hk : k < n) (ht : t < n) (hu : u < n) (hv : v < n) (hok : vf_n64 (FP.dmul (fe (6 * k + u)) (fe (6 * t + v)))) : Met l yX1_product (ws_ yX1_product cX1_product 5 (some .double)) ({ frames := 0, cells := 0, slots := 0, locals := 0 } : Room) (pX [.ref (ad 0), .int (nI k), .int (nI t), .int (nI u), .int (nI v)] D [(ad 0, .inr (0, [.ref (ad 1), .ref (ad 2), .int (nI n), .ref (ad 3), .ref (ad 4), .ref (ad 5), .ref (ad 6), .int d, .long hs])), (ad 1, .inr (1, [])), (ad 2, .inr (2, [])), (ad 3, .inl (cI, 6, .inl fi)), (ad 4, .inl (cI, 6, .inl fo)), (ad 5, .inl (cI, 36, .inl fw)), (ad 6, .inl (cD, 36, .inr (.inr (.inr (.inl fe)))))] cI cD cL tR tC sz) (rD (FP.dmul (fe (6 * k + u)) (fe (6 * t + v)))) 0 0 (fun _ => False) := by
  refine mR_ (by decide +kernel) (Nat.le_of_ble_eq_true rfl) ?_
  intro p e s m below meth c A hx hb hr hml hown hts hK hA hE hlocks hin hsz hP hD hS ls hl
  have hown : s.vm.findClass RX1 = some m.cls := hown
  have hl : lv_has ls 5 [(0, .ref (ad 0)), (1, .int (nI k)), (2, .int (nI t)), (3, .int (nI u)), (4, .int (nI v))] := hl
  refine lv_aload_n hx hb dX1_product_0 rfl (lv_at hl 0 rfl) ?_
  refine va_get (D := D) (ci := 0) (v := .ref (ad 6)) (C := RX1) (T := TX1) (N := 9) hx hb hts in_X1 hown hK hP 0 rfl rfl 6 (by decide) (hts _ q116) (fun _ h9 => h9) rfl dX1_product_1 ?_
  refine lv_bipush (v := 6) hx hb dX1_product_4 (by decide) ?_
  refine lv_iload_n hx hb dX1_product_6 rfl (lv_at hl 1 rfl) ?_
  refine w_imulN hx hb 6 k dX1_product_7 ?_
  refine lv_iload_n hx hb dX1_product_8 rfl (lv_at hl 3 rfl) ?_
  refine w_iaddN hx hb (6 * k) u dX1_product_9 ?_
  refine w_dald hx hb hK hP 6 1 rfl rfl ((6 * k) + u) (by omega) (by decide) dX1_product_10 ?_
  refine lv_aload_n hx hb dX1_product_11 rfl (lv_at hl 0 rfl) ?_
  refine va_get (D := D) (ci := 0) (v := .ref (ad 6)) (C := RX1) (T := TX1) (N := 9) hx hb hts in_X1 hown hK hP 0 rfl rfl 6 (by decide) (hts _ q116) (fun _ h9 => h9) rfl dX1_product_12 ?_
  refine lv_bipush (v := 6) hx hb dX1_product_15 (by decide) ?_
  refine lv_iload_n hx hb dX1_product_17 rfl (lv_at hl 2 rfl) ?_
  refine w_imulN hx hb 6 t dX1_product_18 ?_
  refine lv_iload hx hb dX1_product_19 (lv_at hl 4 rfl) ?_
  refine w_iaddN hx hb (6 * t) v dX1_product_21 ?_
  refine w_dald hx hb hK hP 6 1 rfl rfl ((6 * t) + v) (by omega) (by decide) dX1_product_22 ?_
  refine lv_dmul hx hb dX1_product_23 hok ?_
  exact er_d hx hb hr hlocks rfl dX1_product_24

set_option maxHeartbeats 4000000 in
set_option maxRecDepth 100000 in
theorem mX_crossRatio (l : Launch) (D : va_G) (cI cD cL : ClassId) (tR tC sz : Nat) (ad : Nat → Nat) (n : Nat) (fi : Nat → Int32) (fo : Nat → Int32) (fw : Nat → Int32) (fe : Nat → UInt64) (d : Int32) (hs : Int64) (k : Nat) (t : Nat) (u : Nat) (v : Nat) (hn : n ≤ 6) (hk : k < n) (ht : t < n) (hu : u < n) (hv : v < n) (hbl : vf_n64 (FP.dmul (fe (6 * k + v)) (fe (6 * t + u)))) (ha : vf_n64 (FP.dmul (fe (6 * k + u)) (fe (6 * t + v)))) (hp : dgt (FP.dmul (fe (6 * k + v)) (fe (6 * t + u))) FP.dconst0 = true) (hd : vf_n64 (FP.ddiv (FP.dmul (fe (6 * k + u)) (fe (6 * t + v))) (FP.dmul (fe (6 * k + v)) (fe (6 * t + u))))) : Met l yX1_crossRatio (ws_ yX1_crossRatio cX1_crossRatio 7 (some .double)) ({ frames := 3, cells := 0, slots := 0, locals := 65 } : Room) (pX [.ref (ad 0), .int (nI k), .int (nI t), .int (nI u), .int (nI v)] D [(ad 0, .inr (0, [.ref (ad 1), .ref (ad 2), .int (nI n), .ref (ad 3), .ref (ad 4), .ref (ad 5), .ref (ad 6), .int d, .long hs])), (ad 1, .inr (1, [])), (ad 2, .inr (2, [])), (ad 3, .inl (cI, 6, .inl fi)), (ad 4, .inl (cI, 6, .inl fo)), (ad 5, .inl (cI, 36, .inl fw)), (ad 6, .inl (cD, 36, .inr (.inr (.inr (.inl fe)))))] cI cD cL tR tC sz) (rD (FP.ddiv (FP.dmul (fe (6 * k + u)) (fe (6 * t + v))) (FP.dmul (fe (6 * k + v)) (fe (6 * t + u))))) 0 0 (fun _ => False) := by
  refine mR_ (by decide +kernel) (Nat.le_of_ble_eq_true rfl) ?_
  intro p e s m below meth c A hx hb hr hml hown hts hK hA hE hlocks hin hsz hP hD hS ls hl
  have hown : s.vm.findClass RX1 = some m.cls := hown
  have hl : lv_has ls 7 [(0, .ref (ad 0)), (1, .int (nI k)), (2, .int (nI t)), (3, .int (nI u)), (4, .int (nI v))] := hl
  refine lv_aload_n hx hb dX1_crossRatio_0 rfl (lv_at hl 0 rfl) ?_
  refine lv_iload_n hx hb dX1_crossRatio_1 rfl (lv_at hl 1 rfl) ?_
  refine lv_iload_n hx hb dX1_crossRatio_2 rfl (lv_at hl 2 rfl) ?_
  refine kr_v (va_runV (As := [.int (nI k), .int (nI t)]) (rest := []) ⟨hx, hb, hml, hown, hts⟩ (mX_requireTurn l D cI cD cL tR tC s.heap.size ad n fi fo fw fe d hs (nI k) (nI t) (okArm_nat hk hn) (okArm_nat ht hn)) (cwV 2 hts (lw_V q479 q481 qs20 q50 q482) rfl rfl rfl (by decide +kernel) ⟨Nat.le_of_ble_eq_true rfl, Nat.le_of_ble_eq_true rfl⟩) (pV_ (wc := [(ad 0, .inr (0, [.ref (ad 1), .ref (ad 2), .int (nI n), .ref (ad 3), .ref (ad 4), .ref (ad 5), .ref (ad 6), .int d, .long hs])), (ad 1, .inr (1, [])), (ad 2, .inr (2, [])), (ad 3, .inl (cI, 6, .inl fi)), (ad 4, .inl (cI, 6, .inl fo)), (ad 5, .inl (cI, 36, .inl fw)), (ad 6, .inl (cD, 36, .inr (.inr (.inr (.inl fe)))))]) (va_recv hK hP (ci := 0) (q0 := 0) rfl rfl) hK hP hD hS hA hE [0, 1, 2, 3, 4, 5, 6] rfl rfl rfl) rfl rfl hl.1 rfl (lv_room (Nat.le_of_ble_eq_true rfl)) dX1_crossRatio_3 ⟨(Nat.le_of_ble_eq_true rfl), (Nat.le_of_ble_eq_true rfl)⟩) ?_
  refine lv_aload_n hx hb dX1_crossRatio_6 rfl (lv_at hl 0 rfl) ?_
  refine lv_iload_n hx hb dX1_crossRatio_7 rfl (lv_at hl 3 rfl) ?_
  refine lv_iload hx hb dX1_crossRatio_8 (lv_at hl 4 rfl) ?_
  refine kr_v (va_runV (As := [.int (nI u), .int (nI v)]) (rest := []) ⟨hx, hb, hml, hown, hts⟩ (mX_requireTurn l D cI cD cL tR tC s.heap.size ad n fi fo fw fe d hs (nI u) (nI v) (okArm_nat hu hn) (okArm_nat hv hn)) (cwV 2 hts (lw_V q479 q481 qs20 q50 q482) rfl rfl rfl (by decide +kernel) ⟨Nat.le_of_ble_eq_true rfl, Nat.le_of_ble_eq_true rfl⟩) (pV_ (wc := [(ad 0, .inr (0, [.ref (ad 1), .ref (ad 2), .int (nI n), .ref (ad 3), .ref (ad 4), .ref (ad 5), .ref (ad 6), .int d, .long hs])), (ad 1, .inr (1, [])), (ad 2, .inr (2, [])), (ad 3, .inl (cI, 6, .inl fi)), (ad 4, .inl (cI, 6, .inl fo)), (ad 5, .inl (cI, 36, .inl fw)), (ad 6, .inl (cD, 36, .inr (.inr (.inr (.inl fe)))))]) (va_recv hK hP (ci := 0) (q0 := 0) rfl rfl) hK hP hD hS hA hE [0, 1, 2, 3, 4, 5, 6] rfl rfl rfl) rfl rfl hl.1 rfl (lv_room (Nat.le_of_ble_eq_true rfl)) dX1_crossRatio_10 ⟨(Nat.le_of_ble_eq_true rfl), (Nat.le_of_ble_eq_true rfl)⟩) ?_
  refine lv_aload_n hx hb dX1_crossRatio_13 rfl (lv_at hl 0 rfl) ?_
  refine lv_iload_n hx hb dX1_crossRatio_14 rfl (lv_at hl 1 rfl) ?_
  refine lv_iload_n hx hb dX1_crossRatio_15 rfl (lv_at hl 2 rfl) ?_
  refine lv_iload hx hb dX1_crossRatio_16 (lv_at hl 4 rfl) ?_
  refine lv_iload_n hx hb dX1_crossRatio_18 rfl (lv_at hl 3 rfl) ?_
  refine kr_d (va_runV (As := [.int (nI k), .int (nI t), .int (nI v), .int (nI u)]) (rest := []) ⟨hx, hb, hml, hown, hts⟩ (mX_product l D cI cD cL tR tC s.heap.size ad n fi fo fw fe d hs k t v u (by first | assumption | omega) (by first | assumption | omega) (by first | assumption | omega) (by first | assumption | omega) (by first | assumption | omega) hbl) (cwV 4 hts (lw_V q626 q628 qs22 q50 q629) rfl rfl rfl (by decide +kernel) ⟨Nat.le_of_ble_eq_true rfl, Nat.le_of_ble_eq_true rfl⟩) (pV_ (wc := [(ad 0, .inr (0, [.ref (ad 1), .ref (ad 2), .int (nI n), .ref (ad 3), .ref (ad 4), .ref (ad 5), .ref (ad 6), .int d, .long hs])), (ad 1, .inr (1, [])), (ad 2, .inr (2, [])), (ad 3, .inl (cI, 6, .inl fi)), (ad 4, .inl (cI, 6, .inl fo)), (ad 5, .inl (cI, 36, .inl fw)), (ad 6, .inl (cD, 36, .inr (.inr (.inr (.inl fe)))))]) (va_recv hK hP (ci := 0) (q0 := 0) rfl rfl) hK hP hD hS hA hE [0, 1, 2, 3, 4, 5, 6] rfl rfl rfl) rfl rfl hl.1 rfl (lv_room (Nat.le_of_ble_eq_true rfl)) dX1_crossRatio_19 ⟨(Nat.le_of_ble_eq_true rfl), (Nat.le_of_ble_eq_true rfl)⟩) ?_
  refine lv_dstore (lv' := [(5, .double (FP.dmul (fe (6 * k + v)) (fe (6 * t + u)))), (0, .ref (ad 0)), (1, .int (nI k)), (2, .int (nI t)), (3, .int (nI u)), (4, .int (nI v))]) hx hb dX1_crossRatio_22 hl (Nat.le_of_ble_eq_true rfl) rfl (fun ls hl => ?_)
  refine lv_dload hx hb dX1_crossRatio_24 (lv_at hl 0 rfl) ?_
  refine lv_dconst0 hx hb dX1_crossRatio_26 ?_
  refine lv_dcmp hx hb dX1_crossRatio_27 ?_
  refine w_if_gtD hx hb (FP.dmul (fe (6 * k + v)) (fe (6 * t + u))) FP.dconst0 (tgt := 39) dX1_crossRatio_28 (by decide) (fun c_1 => ?_) (fun c_1 => ?_)
  · refine lv_aload_n hx hb dX1_crossRatio_39 rfl (lv_at hl 1 rfl) ?_
    refine lv_iload_n hx hb dX1_crossRatio_40 rfl (lv_at hl 2 rfl) ?_
    refine lv_iload_n hx hb dX1_crossRatio_41 rfl (lv_at hl 3 rfl) ?_
    refine lv_iload_n hx hb dX1_crossRatio_42 rfl (lv_at hl 4 rfl) ?_
    refine lv_iload hx hb dX1_crossRatio_43 (lv_at hl 5 rfl) ?_
    refine kr_d (va_runV (As := [.int (nI k), .int (nI t), .int (nI u), .int (nI v)]) (rest := []) ⟨hx, hb, hml, hown, hts⟩ (mX_product l D cI cD cL tR tC s.heap.size ad n fi fo fw fe d hs k t u v (by first | assumption | omega) (by first | assumption | omega) (by first | assumption | omega) (by first | assumption | omega) (by first | assumption | omega) ha) (cwV 4 hts (lw_V q626 q628 qs22 q50 q629) rfl rfl rfl (by decide +kernel) ⟨Nat.le_of_ble_eq_true rfl, Nat.le_of_ble_eq_true rfl⟩) (pV_ (wc := [(ad 0, .inr (0, [.ref (ad 1), .ref (ad 2), .int (nI n), .ref (ad 3), .ref (ad 4), .ref (ad 5), .ref (ad 6), .int d, .long hs])), (ad 1, .inr (1, [])), (ad 2, .inr (2, [])), (ad 3, .inl (cI, 6, .inl fi)), (ad 4, .inl (cI, 6, .inl fo)), (ad 5, .inl (cI, 36, .inl fw)), (ad 6, .inl (cD, 36, .inr (.inr (.inr (.inl fe)))))]) (va_recv hK hP (ci := 0) (q0 := 0) rfl rfl) hK hP hD hS hA hE [0, 1, 2, 3, 4, 5, 6] rfl rfl rfl) rfl rfl hl.1 rfl (lv_room (Nat.le_of_ble_eq_true rfl)) dX1_crossRatio_45 ⟨(Nat.le_of_ble_eq_true rfl), (Nat.le_of_ble_eq_true rfl)⟩) ?_
    refine lv_dload hx hb dX1_crossRatio_48 (lv_at hl 0 rfl) ?_
    refine lv_ddiv hx hb dX1_crossRatio_50 hd ?_
    exact er_d hx hb hr hlocks rfl dX1_crossRatio_51
  · exact absurd hp c_1

theorem xat_ArithmeticException : (vx_at0 RX1 152 "java/lang/ArithmeticException" nmsX).all (fun w => decide (w ∈ xTw) || (decide (w ∈ lw_tbl) && goodWord w)) = true := by decide +kernel
theorem xat_ArithmeticExceptiong : (Cond.classLink RX1 150 "java/lang/ArithmeticException" :: Cond.initialized "java/lang/ArithmeticException" :: vx_at0 RX1 152 "java/lang/ArithmeticException" nmsX).all (fun w => vx_ot w) = true := by decide +kernel
set_option maxHeartbeats 4000000 in
set_option maxRecDepth 100000 in
theorem tX_crossRatioZ (l : Launch) (D : va_G) (cI cD cL : ClassId) (tR tC sz : Nat) (ad : Nat → Nat) (n : Nat) (fi : Nat → Int32) (fo : Nat → Int32) (fw : Nat → Int32) (fe : Nat → UInt64) (d : Int32) (hs : Int64) (k : Nat) (t : Nat) (u : Nat) (v : Nat) (hn : n ≤ 6) (hk : k < n) (ht : t < n) (hu : u < n) (hv : v < n) (hbl : vf_n64 (FP.dmul (fe (6 * k + v)) (fe (6 * t + u)))) (hp : ¬ dgt (FP.dmul (fe (6 * k + v)) (fe (6 * t + u))) FP.dconst0 = true) (hfl : l.stackTraces = false) : xThr l yX1_crossRatio (ws_ yX1_crossRatio cX1_crossRatio 7 (some .double)) ({ frames := 6, cells := 1, slots := 6, locals := 81 } : Room) (pX [.ref (ad 0), .int (nI k), .int (nI t), .int (nI u), .int (nI v)] D [(ad 0, .inr (0, [.ref (ad 1), .ref (ad 2), .int (nI n), .ref (ad 3), .ref (ad 4), .ref (ad 5), .ref (ad 6), .int d, .long hs])), (ad 1, .inr (1, [])), (ad 2, .inr (2, [])), (ad 3, .inl (cI, 6, .inl fi)), (ad 4, .inl (cI, 6, .inl fo)), (ad 5, .inl (cI, 36, .inl fw)), (ad 6, .inl (cD, 36, .inr (.inr (.inr (.inl fe)))))] cI cD cL tR tC sz) "java/lang/ArithmeticException" := by
  refine mT_ (by decide +kernel) (Nat.le_of_ble_eq_true rfl) ?_
  intro p e s m below meth c A hx hb hr hml hown hts hK hA hE hlocks hin hsz hP hD hS hout ls hl
  have hown : s.vm.findClass RX1 = some m.cls := hown
  have hl : lv_has ls 7 [(0, .ref (ad 0)), (1, .int (nI k)), (2, .int (nI t)), (3, .int (nI u)), (4, .int (nI v))] := hl
  refine lv_aload_n hx hb dX1_crossRatio_0 rfl (lv_at hl 0 rfl) ?_
  refine lv_iload_n hx hb dX1_crossRatio_1 rfl (lv_at hl 1 rfl) ?_
  refine lv_iload_n hx hb dX1_crossRatio_2 rfl (lv_at hl 2 rfl) ?_
  refine kr_v (va_runV (As := [.int (nI k), .int (nI t)]) (rest := []) ⟨hx, hb, hml, hown, hts⟩ (mX_requireTurn l D cI cD cL tR tC s.heap.size ad n fi fo fw fe d hs (nI k) (nI t) (okArm_nat hk hn) (okArm_nat ht hn)) (cwV 2 hts (lw_V q479 q481 qs20 q50 q482) rfl rfl rfl (by decide +kernel) ⟨Nat.le_of_ble_eq_true rfl, Nat.le_of_ble_eq_true rfl⟩) (pV_ (wc := [(ad 0, .inr (0, [.ref (ad 1), .ref (ad 2), .int (nI n), .ref (ad 3), .ref (ad 4), .ref (ad 5), .ref (ad 6), .int d, .long hs])), (ad 1, .inr (1, [])), (ad 2, .inr (2, [])), (ad 3, .inl (cI, 6, .inl fi)), (ad 4, .inl (cI, 6, .inl fo)), (ad 5, .inl (cI, 36, .inl fw)), (ad 6, .inl (cD, 36, .inr (.inr (.inr (.inl fe)))))]) (va_recv hK hP (ci := 0) (q0 := 0) rfl rfl) hK hP hD hS hA hE [0, 1, 2, 3, 4, 5, 6] rfl rfl rfl) rfl rfl hl.1 rfl (lv_room (Nat.le_of_ble_eq_true rfl)) dX1_crossRatio_3 ⟨(Nat.le_of_ble_eq_true rfl), (Nat.le_of_ble_eq_true rfl)⟩) ?_
  refine lv_aload_n hx hb dX1_crossRatio_6 rfl (lv_at hl 0 rfl) ?_
  refine lv_iload_n hx hb dX1_crossRatio_7 rfl (lv_at hl 3 rfl) ?_
  refine lv_iload hx hb dX1_crossRatio_8 (lv_at hl 4 rfl) ?_
  refine kr_v (va_runV (As := [.int (nI u), .int (nI v)]) (rest := []) ⟨hx, hb, hml, hown, hts⟩ (mX_requireTurn l D cI cD cL tR tC s.heap.size ad n fi fo fw fe d hs (nI u) (nI v) (okArm_nat hu hn) (okArm_nat hv hn)) (cwV 2 hts (lw_V q479 q481 qs20 q50 q482) rfl rfl rfl (by decide +kernel) ⟨Nat.le_of_ble_eq_true rfl, Nat.le_of_ble_eq_true rfl⟩) (pV_ (wc := [(ad 0, .inr (0, [.ref (ad 1), .ref (ad 2), .int (nI n), .ref (ad 3), .ref (ad 4), .ref (ad 5), .ref (ad 6), .int d, .long hs])), (ad 1, .inr (1, [])), (ad 2, .inr (2, [])), (ad 3, .inl (cI, 6, .inl fi)), (ad 4, .inl (cI, 6, .inl fo)), (ad 5, .inl (cI, 36, .inl fw)), (ad 6, .inl (cD, 36, .inr (.inr (.inr (.inl fe)))))]) (va_recv hK hP (ci := 0) (q0 := 0) rfl rfl) hK hP hD hS hA hE [0, 1, 2, 3, 4, 5, 6] rfl rfl rfl) rfl rfl hl.1 rfl (lv_room (Nat.le_of_ble_eq_true rfl)) dX1_crossRatio_10 ⟨(Nat.le_of_ble_eq_true rfl), (Nat.le_of_ble_eq_true rfl)⟩) ?_
  refine lv_aload_n hx hb dX1_crossRatio_13 rfl (lv_at hl 0 rfl) ?_
  refine lv_iload_n hx hb dX1_crossRatio_14 rfl (lv_at hl 1 rfl) ?_
  refine lv_iload_n hx hb dX1_crossRatio_15 rfl (lv_at hl 2 rfl) ?_
  refine lv_iload hx hb dX1_crossRatio_16 (lv_at hl 4 rfl) ?_
  refine lv_iload_n hx hb dX1_crossRatio_18 rfl (lv_at hl 3 rfl) ?_
  refine kr_d (va_runV (As := [.int (nI k), .int (nI t), .int (nI v), .int (nI u)]) (rest := []) ⟨hx, hb, hml, hown, hts⟩ (mX_product l D cI cD cL tR tC s.heap.size ad n fi fo fw fe d hs k t v u (by first | assumption | omega) (by first | assumption | omega) (by first | assumption | omega) (by first | assumption | omega) (by first | assumption | omega) hbl) (cwV 4 hts (lw_V q626 q628 qs22 q50 q629) rfl rfl rfl (by decide +kernel) ⟨Nat.le_of_ble_eq_true rfl, Nat.le_of_ble_eq_true rfl⟩) (pV_ (wc := [(ad 0, .inr (0, [.ref (ad 1), .ref (ad 2), .int (nI n), .ref (ad 3), .ref (ad 4), .ref (ad 5), .ref (ad 6), .int d, .long hs])), (ad 1, .inr (1, [])), (ad 2, .inr (2, [])), (ad 3, .inl (cI, 6, .inl fi)), (ad 4, .inl (cI, 6, .inl fo)), (ad 5, .inl (cI, 36, .inl fw)), (ad 6, .inl (cD, 36, .inr (.inr (.inr (.inl fe)))))]) (va_recv hK hP (ci := 0) (q0 := 0) rfl rfl) hK hP hD hS hA hE [0, 1, 2, 3, 4, 5, 6] rfl rfl rfl) rfl rfl hl.1 rfl (lv_room (Nat.le_of_ble_eq_true rfl)) dX1_crossRatio_19 ⟨(Nat.le_of_ble_eq_true rfl), (Nat.le_of_ble_eq_true rfl)⟩) ?_
  refine lv_dstore (lv' := [(5, .double (FP.dmul (fe (6 * k + v)) (fe (6 * t + u)))), (0, .ref (ad 0)), (1, .int (nI k)), (2, .int (nI t)), (3, .int (nI u)), (4, .int (nI v))]) hx hb dX1_crossRatio_22 hl (Nat.le_of_ble_eq_true rfl) rfl (fun ls hl => ?_)
  refine lv_dload hx hb dX1_crossRatio_24 (lv_at hl 0 rfl) ?_
  refine lv_dconst0 hx hb dX1_crossRatio_26 ?_
  refine lv_dcmp hx hb dX1_crossRatio_27 ?_
  refine w_if_gtD hx hb (FP.dmul (fe (6 * k + v)) (fe (6 * t + u))) FP.dconst0 (tgt := 39) dX1_crossRatio_28 (by decide) (fun c_1 => ?_) (fun c_1 => ?_)
  · exact absurd c_1 hp
  · exact w_throw0 hx hb hfl hown hts hE (by decide +kernel) (by decide +kernel) q630 q64 xat_ArithmeticException xat_ArithmeticExceptiong (by rw [hml]; exact hl.1) dX1_crossRatio_31 dX1_crossRatio_34 dX1_crossRatio_35 dX1_crossRatio_38 hout hlocks (Nat.le_of_ble_eq_true rfl) (Nat.le_of_ble_eq_true rfl) (Nat.le_of_ble_eq_true rfl) (Nat.le_of_ble_eq_true rfl)

set_option maxHeartbeats 4000000 in
set_option maxRecDepth 100000 in
theorem tX_crossRatio1 (l : Launch) (D : va_G) (cI cD cL : ClassId) (tR tC sz : Nat) (ad : Nat → Nat) (n : Nat) (fi : Nat → Int32) (fo : Nat → Int32) (fw : Nat → Int32) (fe : Nat → UInt64) (d : Int32) (hs : Int64) (x1 : Int32) (x2 : Int32) (x3 : Int32) (x4 : Int32) (hok1 : ¬ decide (0 ≤ x1 ∧ x1 ≤ nI n - 1) = true) (hfl : l.stackTraces = false) : xThr l yX1_crossRatio (ws_ yX1_crossRatio cX1_crossRatio 7 (some .double)) ({ frames := 8, cells := 1, slots := 6, locals := 124 } : Room) (pX [.ref (ad 0), .int x1, .int x2, .int x3, .int x4] D [(ad 0, .inr (0, [.ref (ad 1), .ref (ad 2), .int (nI n), .ref (ad 3), .ref (ad 4), .ref (ad 5), .ref (ad 6), .int d, .long hs])), (ad 1, .inr (1, [])), (ad 2, .inr (2, [])), (ad 3, .inl (cI, 6, .inl fi)), (ad 4, .inl (cI, 6, .inl fo)), (ad 5, .inl (cI, 36, .inl fw)), (ad 6, .inl (cD, 36, .inr (.inr (.inr (.inl fe)))))] cI cD cL tR tC sz) "java/lang/IndexOutOfBoundsException" := by
  refine mT_ (by decide +kernel) (Nat.le_of_ble_eq_true rfl) ?_
  intro p e s m below meth c A hx hb hr hml hown hts hK hA hE hlocks hin hsz hP hD hS hout ls hl
  have hown : s.vm.findClass RX1 = some m.cls := hown
  have hl : lv_has ls 7 [(0, .ref (ad 0)), (1, .int x1), (2, .int x2), (3, .int x3), (4, .int x4)] := hl
  refine lv_aload_n hx hb dX1_crossRatio_0 rfl (lv_at hl 0 rfl) ?_
  refine lv_iload_n hx hb dX1_crossRatio_1 rfl (lv_at hl 1 rfl) ?_
  refine lv_iload_n hx hb dX1_crossRatio_2 rfl (lv_at hl 2 rfl) ?_
  exact kx_out (vx_runV (As := [.int x1, .int x2]) (rest := []) ⟨hx, hb, hml, hown, hts⟩ (tX_requireTurn1 l D cI cD cL tR tC s.heap.size ad n fi fo fw fe d hs x1 x2 (by first | assumption | omega) (by first | assumption | omega)) (cwV 2 hts (lw_V q479 q481 qs20 q50 q482) rfl rfl rfl (by decide +kernel) ⟨Nat.le_of_ble_eq_true rfl, Nat.le_of_ble_eq_true rfl⟩) (pV_ (wc := [(ad 0, .inr (0, [.ref (ad 1), .ref (ad 2), .int (nI n), .ref (ad 3), .ref (ad 4), .ref (ad 5), .ref (ad 6), .int d, .long hs])), (ad 1, .inr (1, [])), (ad 2, .inr (2, [])), (ad 3, .inl (cI, 6, .inl fi)), (ad 4, .inl (cI, 6, .inl fo)), (ad 5, .inl (cI, 36, .inl fw)), (ad 6, .inl (cD, 36, .inr (.inr (.inr (.inl fe)))))]) (va_recv hK hP (ci := 0) (q0 := 0) rfl rfl) hK hP hD hS hA hE [0, 1, 2, 3, 4, 5, 6] rfl rfl rfl) rfl rfl hl.1 rfl (lv_room (Nat.le_of_ble_eq_true rfl)) dX1_crossRatio_3 ⟨(Nat.le_of_ble_eq_true rfl), (Nat.le_of_ble_eq_true rfl)⟩) hS hout hlocks rfl rfl

set_option maxHeartbeats 4000000 in
set_option maxRecDepth 100000 in
theorem tX_crossRatio2 (l : Launch) (D : va_G) (cI cD cL : ClassId) (tR tC sz : Nat) (ad : Nat → Nat) (n : Nat) (fi : Nat → Int32) (fo : Nat → Int32) (fw : Nat → Int32) (fe : Nat → UInt64) (d : Int32) (hs : Int64) (x1 : Int32) (x2 : Int32) (x3 : Int32) (x4 : Int32) (hok1 : decide (0 ≤ x1 ∧ x1 ≤ nI n - 1) = true) (hok2 : ¬ decide (0 ≤ x2 ∧ x2 ≤ nI n - 1) = true) (hfl : l.stackTraces = false) : xThr l yX1_crossRatio (ws_ yX1_crossRatio cX1_crossRatio 7 (some .double)) ({ frames := 8, cells := 1, slots := 6, locals := 124 } : Room) (pX [.ref (ad 0), .int x1, .int x2, .int x3, .int x4] D [(ad 0, .inr (0, [.ref (ad 1), .ref (ad 2), .int (nI n), .ref (ad 3), .ref (ad 4), .ref (ad 5), .ref (ad 6), .int d, .long hs])), (ad 1, .inr (1, [])), (ad 2, .inr (2, [])), (ad 3, .inl (cI, 6, .inl fi)), (ad 4, .inl (cI, 6, .inl fo)), (ad 5, .inl (cI, 36, .inl fw)), (ad 6, .inl (cD, 36, .inr (.inr (.inr (.inl fe)))))] cI cD cL tR tC sz) "java/lang/IndexOutOfBoundsException" := by
  refine mT_ (by decide +kernel) (Nat.le_of_ble_eq_true rfl) ?_
  intro p e s m below meth c A hx hb hr hml hown hts hK hA hE hlocks hin hsz hP hD hS hout ls hl
  have hown : s.vm.findClass RX1 = some m.cls := hown
  have hl : lv_has ls 7 [(0, .ref (ad 0)), (1, .int x1), (2, .int x2), (3, .int x3), (4, .int x4)] := hl
  refine lv_aload_n hx hb dX1_crossRatio_0 rfl (lv_at hl 0 rfl) ?_
  refine lv_iload_n hx hb dX1_crossRatio_1 rfl (lv_at hl 1 rfl) ?_
  refine lv_iload_n hx hb dX1_crossRatio_2 rfl (lv_at hl 2 rfl) ?_
  exact kx_out (vx_runV (As := [.int x1, .int x2]) (rest := []) ⟨hx, hb, hml, hown, hts⟩ (tX_requireTurn2 l D cI cD cL tR tC s.heap.size ad n fi fo fw fe d hs x1 x2 (by first | assumption | omega) (by first | assumption | omega) (by first | assumption | omega)) (cwV 2 hts (lw_V q479 q481 qs20 q50 q482) rfl rfl rfl (by decide +kernel) ⟨Nat.le_of_ble_eq_true rfl, Nat.le_of_ble_eq_true rfl⟩) (pV_ (wc := [(ad 0, .inr (0, [.ref (ad 1), .ref (ad 2), .int (nI n), .ref (ad 3), .ref (ad 4), .ref (ad 5), .ref (ad 6), .int d, .long hs])), (ad 1, .inr (1, [])), (ad 2, .inr (2, [])), (ad 3, .inl (cI, 6, .inl fi)), (ad 4, .inl (cI, 6, .inl fo)), (ad 5, .inl (cI, 36, .inl fw)), (ad 6, .inl (cD, 36, .inr (.inr (.inr (.inl fe)))))]) (va_recv hK hP (ci := 0) (q0 := 0) rfl rfl) hK hP hD hS hA hE [0, 1, 2, 3, 4, 5, 6] rfl rfl rfl) rfl rfl hl.1 rfl (lv_room (Nat.le_of_ble_eq_true rfl)) dX1_crossRatio_3 ⟨(Nat.le_of_ble_eq_true rfl), (Nat.le_of_ble_eq_true rfl)⟩) hS hout hlocks rfl rfl

set_option maxHeartbeats 4000000 in
set_option maxRecDepth 100000 in
theorem tX_crossRatio3 (l : Launch) (D : va_G) (cI cD cL : ClassId) (tR tC sz : Nat) (ad : Nat → Nat) (n : Nat) (fi : Nat → Int32) (fo : Nat → Int32) (fw : Nat → Int32) (fe : Nat → UInt64) (d : Int32) (hs : Int64) (x1 : Int32) (x2 : Int32) (x3 : Int32) (x4 : Int32) (hok1 : decide (0 ≤ x1 ∧ x1 ≤ nI n - 1) = true) (hok2 : decide (0 ≤ x2 ∧ x2 ≤ nI n - 1) = true) (hok3 : ¬ decide (0 ≤ x3 ∧ x3 ≤ nI n - 1) = true) (hfl : l.stackTraces = false) : xThr l yX1_crossRatio (ws_ yX1_crossRatio cX1_crossRatio 7 (some .double)) ({ frames := 8, cells := 1, slots := 6, locals := 124 } : Room) (pX [.ref (ad 0), .int x1, .int x2, .int x3, .int x4] D [(ad 0, .inr (0, [.ref (ad 1), .ref (ad 2), .int (nI n), .ref (ad 3), .ref (ad 4), .ref (ad 5), .ref (ad 6), .int d, .long hs])), (ad 1, .inr (1, [])), (ad 2, .inr (2, [])), (ad 3, .inl (cI, 6, .inl fi)), (ad 4, .inl (cI, 6, .inl fo)), (ad 5, .inl (cI, 36, .inl fw)), (ad 6, .inl (cD, 36, .inr (.inr (.inr (.inl fe)))))] cI cD cL tR tC sz) "java/lang/IndexOutOfBoundsException" := by
  refine mT_ (by decide +kernel) (Nat.le_of_ble_eq_true rfl) ?_
  intro p e s m below meth c A hx hb hr hml hown hts hK hA hE hlocks hin hsz hP hD hS hout ls hl
  have hown : s.vm.findClass RX1 = some m.cls := hown
  have hl : lv_has ls 7 [(0, .ref (ad 0)), (1, .int x1), (2, .int x2), (3, .int x3), (4, .int x4)] := hl
  refine lv_aload_n hx hb dX1_crossRatio_0 rfl (lv_at hl 0 rfl) ?_
  refine lv_iload_n hx hb dX1_crossRatio_1 rfl (lv_at hl 1 rfl) ?_
  refine lv_iload_n hx hb dX1_crossRatio_2 rfl (lv_at hl 2 rfl) ?_
  refine kr_v (va_runV (As := [.int x1, .int x2]) (rest := []) ⟨hx, hb, hml, hown, hts⟩ (mX_requireTurn l D cI cD cL tR tC s.heap.size ad n fi fo fw fe d hs x1 x2 (by first | assumption | omega) (by first | assumption | omega)) (cwV 2 hts (lw_V q479 q481 qs20 q50 q482) rfl rfl rfl (by decide +kernel) ⟨Nat.le_of_ble_eq_true rfl, Nat.le_of_ble_eq_true rfl⟩) (pV_ (wc := [(ad 0, .inr (0, [.ref (ad 1), .ref (ad 2), .int (nI n), .ref (ad 3), .ref (ad 4), .ref (ad 5), .ref (ad 6), .int d, .long hs])), (ad 1, .inr (1, [])), (ad 2, .inr (2, [])), (ad 3, .inl (cI, 6, .inl fi)), (ad 4, .inl (cI, 6, .inl fo)), (ad 5, .inl (cI, 36, .inl fw)), (ad 6, .inl (cD, 36, .inr (.inr (.inr (.inl fe)))))]) (va_recv hK hP (ci := 0) (q0 := 0) rfl rfl) hK hP hD hS hA hE [0, 1, 2, 3, 4, 5, 6] rfl rfl rfl) rfl rfl hl.1 rfl (lv_room (Nat.le_of_ble_eq_true rfl)) dX1_crossRatio_3 ⟨(Nat.le_of_ble_eq_true rfl), (Nat.le_of_ble_eq_true rfl)⟩) ?_
  refine lv_aload_n hx hb dX1_crossRatio_6 rfl (lv_at hl 0 rfl) ?_
  refine lv_iload_n hx hb dX1_crossRatio_7 rfl (lv_at hl 3 rfl) ?_
  refine lv_iload hx hb dX1_crossRatio_8 (lv_at hl 4 rfl) ?_
  exact kx_out (vx_runV (As := [.int x3, .int x4]) (rest := []) ⟨hx, hb, hml, hown, hts⟩ (tX_requireTurn1 l D cI cD cL tR tC s.heap.size ad n fi fo fw fe d hs x3 x4 hok3 (by first | assumption | omega)) (cwV 2 hts (lw_V q479 q481 qs20 q50 q482) rfl rfl rfl (by decide +kernel) ⟨Nat.le_of_ble_eq_true rfl, Nat.le_of_ble_eq_true rfl⟩) (pV_ (wc := [(ad 0, .inr (0, [.ref (ad 1), .ref (ad 2), .int (nI n), .ref (ad 3), .ref (ad 4), .ref (ad 5), .ref (ad 6), .int d, .long hs])), (ad 1, .inr (1, [])), (ad 2, .inr (2, [])), (ad 3, .inl (cI, 6, .inl fi)), (ad 4, .inl (cI, 6, .inl fo)), (ad 5, .inl (cI, 36, .inl fw)), (ad 6, .inl (cD, 36, .inr (.inr (.inr (.inl fe)))))]) (va_recv hK hP (ci := 0) (q0 := 0) rfl rfl) hK hP hD hS hA hE [0, 1, 2, 3, 4, 5, 6] rfl rfl rfl) rfl rfl hl.1 rfl (lv_room (Nat.le_of_ble_eq_true rfl)) dX1_crossRatio_10 ⟨(Nat.le_of_ble_eq_true rfl), (Nat.le_of_ble_eq_true rfl)⟩) hS hout hlocks rfl rfl

set_option maxHeartbeats 4000000 in
set_option maxRecDepth 100000 in
theorem tX_crossRatio4 (l : Launch) (D : va_G) (cI cD cL : ClassId) (tR tC sz : Nat) (ad : Nat → Nat) (n : Nat) (fi : Nat → Int32) (fo : Nat → Int32) (fw : Nat → Int32) (fe : Nat → UInt64) (d : Int32) (hs : Int64) (x1 : Int32) (x2 : Int32) (x3 : Int32) (x4 : Int32) (hok1 : decide (0 ≤ x1 ∧ x1 ≤ nI n - 1) = true) (hok2 : decide (0 ≤ x2 ∧ x2 ≤ nI n - 1) = true) (hok3 : decide (0 ≤ x3 ∧ x3 ≤ nI n - 1) = true) (hok4 : ¬ decide (0 ≤ x4 ∧ x4 ≤ nI n - 1) = true) (hfl : l.stackTraces = false) : xThr l yX1_crossRatio (ws_ yX1_crossRatio cX1_crossRatio 7 (some .double)) ({ frames := 8, cells := 1, slots := 6, locals := 124 } : Room) (pX [.ref (ad 0), .int x1, .int x2, .int x3, .int x4] D [(ad 0, .inr (0, [.ref (ad 1), .ref (ad 2), .int (nI n), .ref (ad 3), .ref (ad 4), .ref (ad 5), .ref (ad 6), .int d, .long hs])), (ad 1, .inr (1, [])), (ad 2, .inr (2, [])), (ad 3, .inl (cI, 6, .inl fi)), (ad 4, .inl (cI, 6, .inl fo)), (ad 5, .inl (cI, 36, .inl fw)), (ad 6, .inl (cD, 36, .inr (.inr (.inr (.inl fe)))))] cI cD cL tR tC sz) "java/lang/IndexOutOfBoundsException" := by
  refine mT_ (by decide +kernel) (Nat.le_of_ble_eq_true rfl) ?_
  intro p e s m below meth c A hx hb hr hml hown hts hK hA hE hlocks hin hsz hP hD hS hout ls hl
  have hown : s.vm.findClass RX1 = some m.cls := hown
  have hl : lv_has ls 7 [(0, .ref (ad 0)), (1, .int x1), (2, .int x2), (3, .int x3), (4, .int x4)] := hl
  refine lv_aload_n hx hb dX1_crossRatio_0 rfl (lv_at hl 0 rfl) ?_
  refine lv_iload_n hx hb dX1_crossRatio_1 rfl (lv_at hl 1 rfl) ?_
  refine lv_iload_n hx hb dX1_crossRatio_2 rfl (lv_at hl 2 rfl) ?_
  refine kr_v (va_runV (As := [.int x1, .int x2]) (rest := []) ⟨hx, hb, hml, hown, hts⟩ (mX_requireTurn l D cI cD cL tR tC s.heap.size ad n fi fo fw fe d hs x1 x2 (by first | assumption | omega) (by first | assumption | omega)) (cwV 2 hts (lw_V q479 q481 qs20 q50 q482) rfl rfl rfl (by decide +kernel) ⟨Nat.le_of_ble_eq_true rfl, Nat.le_of_ble_eq_true rfl⟩) (pV_ (wc := [(ad 0, .inr (0, [.ref (ad 1), .ref (ad 2), .int (nI n), .ref (ad 3), .ref (ad 4), .ref (ad 5), .ref (ad 6), .int d, .long hs])), (ad 1, .inr (1, [])), (ad 2, .inr (2, [])), (ad 3, .inl (cI, 6, .inl fi)), (ad 4, .inl (cI, 6, .inl fo)), (ad 5, .inl (cI, 36, .inl fw)), (ad 6, .inl (cD, 36, .inr (.inr (.inr (.inl fe)))))]) (va_recv hK hP (ci := 0) (q0 := 0) rfl rfl) hK hP hD hS hA hE [0, 1, 2, 3, 4, 5, 6] rfl rfl rfl) rfl rfl hl.1 rfl (lv_room (Nat.le_of_ble_eq_true rfl)) dX1_crossRatio_3 ⟨(Nat.le_of_ble_eq_true rfl), (Nat.le_of_ble_eq_true rfl)⟩) ?_
  refine lv_aload_n hx hb dX1_crossRatio_6 rfl (lv_at hl 0 rfl) ?_
  refine lv_iload_n hx hb dX1_crossRatio_7 rfl (lv_at hl 3 rfl) ?_
  refine lv_iload hx hb dX1_crossRatio_8 (lv_at hl 4 rfl) ?_
  exact kx_out (vx_runV (As := [.int x3, .int x4]) (rest := []) ⟨hx, hb, hml, hown, hts⟩ (tX_requireTurn2 l D cI cD cL tR tC s.heap.size ad n fi fo fw fe d hs x3 x4 hok3 hok4 (by first | assumption | omega)) (cwV 2 hts (lw_V q479 q481 qs20 q50 q482) rfl rfl rfl (by decide +kernel) ⟨Nat.le_of_ble_eq_true rfl, Nat.le_of_ble_eq_true rfl⟩) (pV_ (wc := [(ad 0, .inr (0, [.ref (ad 1), .ref (ad 2), .int (nI n), .ref (ad 3), .ref (ad 4), .ref (ad 5), .ref (ad 6), .int d, .long hs])), (ad 1, .inr (1, [])), (ad 2, .inr (2, [])), (ad 3, .inl (cI, 6, .inl fi)), (ad 4, .inl (cI, 6, .inl fo)), (ad 5, .inl (cI, 36, .inl fw)), (ad 6, .inl (cD, 36, .inr (.inr (.inr (.inl fe)))))]) (va_recv hK hP (ci := 0) (q0 := 0) rfl rfl) hK hP hD hS hA hE [0, 1, 2, 3, 4, 5, 6] rfl rfl rfl) rfl rfl hl.1 rfl (lv_room (Nat.le_of_ble_eq_true rfl)) dX1_crossRatio_10 ⟨(Nat.le_of_ble_eq_true rfl), (Nat.le_of_ble_eq_true rfl)⟩) hS hout hlocks rfl rfl

set_option maxHeartbeats 4000000 in
set_option maxRecDepth 100000 in
theorem mX_busiestNow (l : Launch) (D : va_G) (cI cD cL : ClassId) (tR tC sz : Nat) (ad : Nat → Nat) (n : Nat) (fi : Nat → Int32) (fo : Nat → Int32) (fw : Nat → Int32) (fe : Nat → UInt64) (d : Int32) (hs : Int64) (hn : n ≤ 6) : Met l yX1_busiestNow (ws_ yX1_busiestNow cX1_busiestNow 8 (some .int)) ({ frames := 0, cells := 0, slots := 0, locals := 0 } : Room) (pX [.ref (ad 0)] D [(ad 0, .inr (0, [.ref (ad 1), .ref (ad 2), .int (nI n), .ref (ad 3), .ref (ad 4), .ref (ad 5), .ref (ad 6), .int d, .long hs])), (ad 1, .inr (1, [])), (ad 2, .inr (2, [])), (ad 3, .inl (cI, 6, .inl fi)), (ad 4, .inl (cI, 6, .inl fo)), (ad 5, .inl (cI, 36, .inl fw)), (ad 6, .inl (cD, 36, .inr (.inr (.inr (.inl fe)))))] cI cD cL tR tC sz) (rI ((buO n fe n).1)) 0 0 (fun _ => False) := by
  refine mR_ (by decide +kernel) (Nat.le_of_ble_eq_true rfl) ?_
  intro p e s m below meth c A hx hb hr hml hown hts hK hA hE hlocks hin hsz hP hD hS ls hl
  have hown : s.vm.findClass RX1 = some m.cls := hown
  have hl : lv_has ls 8 [(0, .ref (ad 0))] := hl
  refine lv_iconst (v := (-1)) hx hb dX1_busiestNow_0 (by decide) ?_
  refine lv_istore_n (lv' := [(1, .int (-1)), (0, .ref (ad 0))]) hx hb dX1_busiestNow_1 rfl hl (Nat.le_of_ble_eq_true rfl) rfl (fun ls hl => ?_)
  refine lv_dconst0 hx hb dX1_busiestNow_2 ?_
  refine lv_dstore_n (lv' := [(2, .double FP.dconst0), (1, .int (-1)), (0, .ref (ad 0))]) hx hb dX1_busiestNow_3 rfl hl (Nat.le_of_ble_eq_true rfl) rfl (fun ls hl => ?_)
  refine lv_iconst (v := 0) hx hb dX1_busiestNow_4 (by decide) ?_
  refine lv_istore (lv' := [(4, .int 0), (2, .double FP.dconst0), (1, .int (-1)), (0, .ref (ad 0))]) hx hb dX1_busiestNow_5 hl (Nat.le_of_ble_eq_true rfl) rfl (fun ls hl => ?_)
  have L_1 : ∀ (N : Nat) (i : Nat), n - i < N → (i ≤ n) → ∀ ls : Array Slot, lv_has ls 8 [(4, .int (nI i)), (2, .double ((buO n fe i).2)), (1, .int ((buO n fe i).1)), (0, .ref (ad 0))] → W p l e ({ frames := 0, cells := 0, slots := 0, locals := 0 } : Room) s m ([.ref (ad 0)] : List Value).toArray below meth c s.heap [] 0 0 (MQ below (rI ((buO n fe n).1)) ([.ref (ad 0)] : List Value).toArray s 0 0 (fun _ => False)) (F0 m 7 ls []) := by
    intro N
    induction N with
    | zero => intro i hN; exact absurd hN (Nat.not_lt_zero _)
    | succ N ih7 =>
      intro i hN7 hi ls hl
      refine lv_iload hx hb dX1_busiestNow_7 (lv_at hl 0 rfl) ?_
      refine lv_aload_n hx hb dX1_busiestNow_9 rfl (lv_at hl 3 rfl) ?_
      refine va_get (D := D) (ci := 0) (v := .int (nI n)) (C := RX1) (T := TX1) (N := 9) hx hb hts in_X1 hown hK hP 0 rfl rfl 2 (by decide) (hts _ q103) (fun _ h9 => h9) rfl dX1_busiestNow_10 ?_
      refine w_icmp_geN hx hb i n (by omega) (by omega) (tgt := 89) dX1_busiestNow_13 (by decide) (fun c_2 => ?_) (fun c_2 => ?_)
      · refine lv_iload_n hx hb dX1_busiestNow_89 rfl (lv_at hl 2 rfl) ?_
        exact er_i hx hb hr hlocks (by rw [show i = n by omega]) dX1_busiestNow_90
      · refine lv_iconst (v := 0) hx hb dX1_busiestNow_16 (by decide) ?_
        refine lv_istore (lv' := [(5, .int 0), (4, .int (nI i)), (2, .double ((buO n fe i).2)), (1, .int ((buO n fe i).1)), (0, .ref (ad 0))]) hx hb dX1_busiestNow_17 hl (Nat.le_of_ble_eq_true rfl) rfl (fun ls hl => ?_)
        have L_3 : ∀ (N : Nat) (j : Nat), n - j < N → (j ≤ n) → ∀ ls : Array Slot, lv_has ls 8 [(5, .int (nI j)), (4, .int (nI i)), (2, .double ((buI fe i (buO n fe i) j).2)), (1, .int ((buI fe i (buO n fe i) j).1)), (0, .ref (ad 0))] → W p l e ({ frames := 0, cells := 0, slots := 0, locals := 0 } : Room) s m ([.ref (ad 0)] : List Value).toArray below meth c s.heap [] 0 0 (MQ below (rI ((buO n fe n).1)) ([.ref (ad 0)] : List Value).toArray s 0 0 (fun _ => False)) (F0 m 19 ls []) := by
          intro N
          induction N with
          | zero => intro j hN; exact absurd hN (Nat.not_lt_zero _)
          | succ N ih19 =>
            intro j hN19 hj ls hl
            refine lv_iload hx hb dX1_busiestNow_19 (lv_at hl 0 rfl) ?_
            refine lv_aload_n hx hb dX1_busiestNow_21 rfl (lv_at hl 4 rfl) ?_
            refine va_get (D := D) (ci := 0) (v := .int (nI n)) (C := RX1) (T := TX1) (N := 9) hx hb hts in_X1 hown hK hP 0 rfl rfl 2 (by decide) (hts _ q103) (fun _ h9 => h9) rfl dX1_busiestNow_22 ?_
            refine w_icmp_geN hx hb j n (by omega) (by omega) (tgt := 83) dX1_busiestNow_25 (by decide) (fun c_4 => ?_) (fun c_4 => ?_)
            · refine w_iinc hx hb i (lv' := [(4, .int (nI (i + 1))), (5, .int (nI j)), (2, .double ((buI fe i (buO n fe i) j).2)), (1, .int ((buI fe i (buO n fe i) j).1)), (0, .ref (ad 0))]) dX1_busiestNow_83 hl (k := 1) rfl (Nat.le_of_ble_eq_true rfl) rfl (fun ls hl => ?_)
              refine lv_goto (tgt := 7) hx hb dX1_busiestNow_86 (by decide) ?_
              obtain rfl : n = j := by omega
              exact ih7 (i + 1) (by omega) (by omega) ls (lv_sub hl [0, 2, 3, 4] rfl)
            · refine lv_aload_n hx hb dX1_busiestNow_28 rfl (lv_at hl 4 rfl) ?_
              refine va_get (D := D) (ci := 0) (v := .ref (ad 6)) (C := RX1) (T := TX1) (N := 9) hx hb hts in_X1 hown hK hP 0 rfl rfl 6 (by decide) (hts _ q116) (fun _ h9 => h9) rfl dX1_busiestNow_29 ?_
              refine lv_bipush (v := 6) hx hb dX1_busiestNow_32 (by decide) ?_
              refine lv_iload hx hb dX1_busiestNow_34 (lv_at hl 1 rfl) ?_
              refine w_imulN hx hb 6 i dX1_busiestNow_36 ?_
              refine lv_iload hx hb dX1_busiestNow_37 (lv_at hl 0 rfl) ?_
              refine w_iaddN hx hb (6 * i) j dX1_busiestNow_39 ?_
              refine w_dald hx hb hK hP 6 1 rfl rfl ((6 * i) + j) (by omega) (by decide) dX1_busiestNow_40 ?_
              refine lv_dstore (lv' := [(6, .double (fe ((6 * i) + j))), (5, .int (nI j)), (4, .int (nI i)), (2, .double ((buI fe i (buO n fe i) j).2)), (1, .int ((buI fe i (buO n fe i) j).1)), (0, .ref (ad 0))]) hx hb dX1_busiestNow_41 hl (Nat.le_of_ble_eq_true rfl) rfl (fun ls hl => ?_)
              refine lv_dload hx hb dX1_busiestNow_43 (lv_at hl 0 rfl) ?_
              refine lv_dload_n hx hb dX1_busiestNow_45 rfl (lv_at hl 3 rfl) ?_
              refine lv_dcmp hx hb dX1_busiestNow_46 ?_
              have J_6 : ∀ (v_5 : Int32), v_5 = (if dgt (fe ((6 * i) + j)) ((buI fe i (buO n fe i) j).2) = true then nI ((10 * i) + j) else (buI fe i (buO n fe i) j).1) → ∀ ls : Array Slot, lv_has ls 8 [(6, .double (fe ((6 * i) + j))), (5, .int (nI j)), (4, .int (nI i)), (2, .double ((buI fe i (buO n fe i) j).2)), (1, .int ((buI fe i (buO n fe i) j).1)), (0, .ref (ad 0))] → W p l e ({ frames := 0, cells := 0, slots := 0, locals := 0 } : Room) s m ([.ref (ad 0)] : List Value).toArray below meth c s.heap [] 0 0 (MQ below (rI ((buO n fe n).1)) ([.ref (ad 0)] : List Value).toArray s 0 0 (fun _ => False)) (F0 m 62 ls [.int v_5]) := by
                intro v_5 hv_5 ls hl
                subst hv_5
                refine lv_istore_n (lv' := [(1, .int (if dgt (fe ((6 * i) + j)) ((buI fe i (buO n fe i) j).2) = true then nI ((10 * i) + j) else (buI fe i (buO n fe i) j).1)), (6, .double (fe ((6 * i) + j))), (5, .int (nI j)), (4, .int (nI i)), (2, .double ((buI fe i (buO n fe i) j).2)), (0, .ref (ad 0))]) hx hb dX1_busiestNow_62 rfl hl (Nat.le_of_ble_eq_true rfl) rfl (fun ls hl => ?_)
                refine lv_dload hx hb dX1_busiestNow_63 (lv_at hl 1 rfl) ?_
                refine lv_dload_n hx hb dX1_busiestNow_65 rfl (lv_at hl 4 rfl) ?_
                refine lv_dcmp hx hb dX1_busiestNow_66 ?_
                have J_8 : ∀ (v_7 : UInt64), v_7 = (if dgt (fe ((6 * i) + j)) ((buI fe i (buO n fe i) j).2) = true then fe ((6 * i) + j) else (buI fe i (buO n fe i) j).2) → ∀ ls : Array Slot, lv_has ls 8 [(1, .int (if dgt (fe ((6 * i) + j)) ((buI fe i (buO n fe i) j).2) = true then nI ((10 * i) + j) else (buI fe i (buO n fe i) j).1)), (6, .double (fe ((6 * i) + j))), (5, .int (nI j)), (4, .int (nI i)), (2, .double ((buI fe i (buO n fe i) j).2)), (0, .ref (ad 0))] → W p l e ({ frames := 0, cells := 0, slots := 0, locals := 0 } : Room) s m ([.ref (ad 0)] : List Value).toArray below meth c s.heap [] 0 0 (MQ below (rI ((buO n fe n).1)) ([.ref (ad 0)] : List Value).toArray s 0 0 (fun _ => False)) (F0 m 76 ls [.double v_7]) := by
                  intro v_7 hv_7 ls hl
                  subst hv_7
                  refine lv_dstore_n (lv' := [(2, .double (if dgt (fe ((6 * i) + j)) ((buI fe i (buO n fe i) j).2) = true then fe ((6 * i) + j) else (buI fe i (buO n fe i) j).2)), (1, .int (if dgt (fe ((6 * i) + j)) ((buI fe i (buO n fe i) j).2) = true then nI ((10 * i) + j) else (buI fe i (buO n fe i) j).1)), (6, .double (fe ((6 * i) + j))), (5, .int (nI j)), (4, .int (nI i)), (0, .ref (ad 0))]) hx hb dX1_busiestNow_76 rfl hl (Nat.le_of_ble_eq_true rfl) rfl (fun ls hl => ?_)
                  refine w_iinc hx hb j (lv' := [(5, .int (nI (j + 1))), (2, .double (if dgt (fe ((6 * i) + j)) ((buI fe i (buO n fe i) j).2) = true then fe ((6 * i) + j) else (buI fe i (buO n fe i) j).2)), (1, .int (if dgt (fe ((6 * i) + j)) ((buI fe i (buO n fe i) j).2) = true then nI ((10 * i) + j) else (buI fe i (buO n fe i) j).1)), (6, .double (fe ((6 * i) + j))), (4, .int (nI i)), (0, .ref (ad 0))]) dX1_busiestNow_77 hl (k := 3) rfl (Nat.le_of_ble_eq_true rfl) rfl (fun ls hl => ?_)
                  refine lv_goto (tgt := 19) hx hb dX1_busiestNow_80 (by decide) ?_
                  exact ih19 (j + 1) (by omega) (by omega) ls (lv_sub hl [0, 4, 1, 2, 5] rfl)
                refine w_if_leD hx hb (fe ((6 * i) + j)) ((buI fe i (buO n fe i) j).2) (tgt := 75) dX1_busiestNow_67 (by decide) (fun c_9 => ?_) (fun c_9 => ?_)
                · refine lv_dload_n hx hb dX1_busiestNow_75 rfl (lv_at hl 4 rfl) ?_
                  exact J_8 ((buI fe i (buO n fe i) j).2) (by rw [if_neg c_9]) ls (lv_sub hl [0, 1, 2, 3, 4, 5] rfl)
                · refine lv_dload hx hb dX1_busiestNow_70 (lv_at hl 1 rfl) ?_
                  refine lv_goto (tgt := 76) hx hb dX1_busiestNow_72 (by decide) ?_
                  exact J_8 (fe ((6 * i) + j)) (by rw [if_pos c_9]) ls (lv_sub hl [0, 1, 2, 3, 4, 5] rfl)
              refine w_if_leD hx hb (fe ((6 * i) + j)) ((buI fe i (buO n fe i) j).2) (tgt := 61) dX1_busiestNow_47 (by decide) (fun c_10 => ?_) (fun c_10 => ?_)
              · refine lv_iload_n hx hb dX1_busiestNow_61 rfl (lv_at hl 4 rfl) ?_
                exact J_6 ((buI fe i (buO n fe i) j).1) (by rw [if_neg c_10]) ls (lv_sub hl [0, 1, 2, 3, 4, 5] rfl)
              · refine lv_bipush (v := 10) hx hb dX1_busiestNow_50 (by decide) ?_
                refine lv_iload hx hb dX1_busiestNow_52 (lv_at hl 2 rfl) ?_
                refine w_imulN hx hb 10 i dX1_busiestNow_54 ?_
                refine lv_iload hx hb dX1_busiestNow_55 (lv_at hl 1 rfl) ?_
                refine w_iaddN hx hb (10 * i) j dX1_busiestNow_57 ?_
                refine lv_goto (tgt := 62) hx hb dX1_busiestNow_58 (by decide) ?_
                exact J_6 (nI ((10 * i) + j)) (by rw [if_pos c_10]) ls (lv_sub hl [0, 1, 2, 3, 4, 5] rfl)
        exact L_3 ((n - 0) + 1) 0 (Nat.lt_succ_self _) (by omega) ls (lv_sub hl [0, 1, 2, 3, 4] rfl)
  exact L_1 ((n - 0) + 1) 0 (Nat.lt_succ_self _) (by omega) ls (lv_sub hl [0, 1, 2, 3] rfl)

set_option maxHeartbeats 4000000 in
set_option maxRecDepth 100000 in
theorem mX_busiestTurn (l : Launch) (D : va_G) (cI cD cL : ClassId) (tR tC sz : Nat) (ad : Nat → Nat) (n : Nat) (fi : Nat → Int32) (fo : Nat → Int32) (fw : Nat → Int32) (fe : Nat → UInt64) (d : Int32) (hs : Int64) (hn : n ≤ 6) : Met l yX1_busiestTurn (ws_ yX1_busiestTurn cX1_busiestTurn 1 (some .int)) ({ frames := 1, cells := 0, slots := 0, locals := 27 } : Room) (pX [.ref (ad 0)] D [(ad 0, .inr (0, [.ref (ad 1), .ref (ad 2), .int (nI n), .ref (ad 3), .ref (ad 4), .ref (ad 5), .ref (ad 6), .int d, .long hs])), (ad 1, .inr (1, [])), (ad 2, .inr (2, [])), (ad 3, .inl (cI, 6, .inl fi)), (ad 4, .inl (cI, 6, .inl fo)), (ad 5, .inl (cI, 36, .inl fw)), (ad 6, .inl (cD, 36, .inr (.inr (.inr (.inl fe)))))] cI cD cL tR tC sz) (rI ((buO n fe n).1)) 0 0 (fun _ => False) := by
  refine mR_ (by decide +kernel) (Nat.le_of_ble_eq_true rfl) ?_
  intro p e s m below meth c A hx hb hr hml hown hts hK hA hE hlocks hin hsz hP hD hS ls hl
  have hown : s.vm.findClass RX1 = some m.cls := hown
  have hl : lv_has ls 1 [(0, .ref (ad 0))] := hl
  refine lv_aload_n hx hb dX1_busiestTurn_0 rfl (lv_at hl 0 rfl) ?_
  refine kr_i (va_runV (As := []) (rest := []) ⟨hx, hb, hml, hown, hts⟩ (mX_busiestNow l D cI cD cL tR tC s.heap.size ad n fi fo fw fe d hs (by first | assumption | omega)) (cwV 0 hts (lw_V q220 q222 qs7 q50 q223) rfl rfl rfl (by decide +kernel) ⟨Nat.le_of_ble_eq_true rfl, Nat.le_of_ble_eq_true rfl⟩) (pV_ (wc := [(ad 0, .inr (0, [.ref (ad 1), .ref (ad 2), .int (nI n), .ref (ad 3), .ref (ad 4), .ref (ad 5), .ref (ad 6), .int d, .long hs])), (ad 1, .inr (1, [])), (ad 2, .inr (2, [])), (ad 3, .inl (cI, 6, .inl fi)), (ad 4, .inl (cI, 6, .inl fo)), (ad 5, .inl (cI, 36, .inl fw)), (ad 6, .inl (cD, 36, .inr (.inr (.inr (.inl fe)))))]) (va_recv hK hP (ci := 0) (q0 := 0) rfl rfl) hK hP hD hS hA hE [0, 1, 2, 3, 4, 5, 6] rfl rfl rfl) rfl rfl hl.1 rfl (lv_room (Nat.le_of_ble_eq_true rfl)) dX1_busiestTurn_1 ⟨(Nat.le_of_ble_eq_true rfl), (Nat.le_of_ble_eq_true rfl)⟩) ?_
  exact er_i hx hb hr hlocks rfl dX1_busiestTurn_4

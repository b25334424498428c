set_option maxRecDepth 100000
def f_X8_feed_j4 (x : Int32) (y : Int32) (z : Int32) (v : Int32) (w5 : Int32) (i2 : Nat) : (Int32) :=
  if 4 ≤ nI i2 then
    if 8 ≤ nI i2 then
      if 12 ≤ nI i2 then
        if 16 ≤ nI i2 then
          w5
        else
          v
      else
        z
    else
      y
  else
    x
def f_X8_feed_l23 (x : Int32) (y : Int32) (z : Int32) (v : Int32) (w5 : Int32) (tj : Nat) (i2 : Nat) (X2 : (Int32) × (Nat → Int32)) : (Int32) × (Nat → Int32) :=
  let v59 := f_X8_feed_j4 x y z v w5 i2
  let x60 := ((v59 >>> ((24 - (8 * ((nI i2) - (nI i2) / 4 * 4))) &&& 31)).toInt8.toInt32)
  let f61 := upd X2.2 (tj + i2) (vp_nar .byte x60)
  let x62 := (X2.1 + 1)
  (x62, f61)
def f_X8_feed (I : Nat → Int32) (tp : Nat → Int32) (x : Int32) (y : Int32) (z : Int32) (v : Int32) (w5 : Int32) (tj : Nat) : Int32 × Int32 × Int32 × (Nat → Int32) :=
  if ((I 6) + 20) ≤ 700 then
    let X2 := itN (f_X8_feed_l23 x y z v w5 tj) 20 ((I 6), tp)
    (X2.1, 0, X2.1, X2.2)
  else
    ((-1), 0, (I 6), tp)
abbrev q_X8_feed (D : va_G) (k : KK) (o : Nat) (r : Nat → Nat) (mv : Value) (fr : Value) (I : Nat → Int32) (L : Nat → Int64) (tp : Nat → Int32) (x : Int32) (y : Int32) (z : Int32) (v : Int32) (w5 : Int32) (tj : Nat) (A : Nat → Prop) : Array Value → State → Outcome → State → Prop := va_Qi (fun (r_ : Int32) (u : Int32 × Int32 × Int32 × (Nat → Int32)) => r_ = u.1 ∧ u = f_X8_feed I tp x y z v w5 tj) (bx D (fun u => [(o, eMM r mv fr (upd (upd I 0 u.2.1) 6 u.2.2.1) L), ((r 5), aB k 700 u.2.2.2)]) A) A
abbrev rm_X8_feed : Room := { frames := 1, cells := 0, slots := 0, locals := 40 }
theorem xo_X8_feed : xok yX8_feed 5 := by unfold xok; decide +kernel
set_option maxHeartbeats 8000000 in
theorem m_X8_feed (l : Launch) (D : va_G) (k : KK) (sz : Nat) (o : Nat) (r : Nat → Nat) (mv : Value) (fr : Value) (I : Nat → Int32) (L : Nat → Int64) (tp : Nat → Int32) (x : Int32) (y : Int32) (z : Int32) (v : Int32) (w5 : Int32) (tj : Nat) (htj : I 6 = nI tj) (ht7 : tj ≤ 700) : Met l yX8_feed (ws_ yX8_feed cX8_feed 8 (some .int)) rm_X8_feed (pcx D k [.ref o, .int x, .int y, .int z, .int v, .int w5] sz [(o, eMM r mv fr I L), ((r 5), aB k 700 tp)] (fun _ => True)) (q_X8_feed D k o r mv fr I L tp x y z v w5 tj (va_A [(o, eMM r mv fr I L), ((r 5), aB k 700 tp)] sz)) 0 0 (va_A [(o, eMM r mv fr I L), ((r 5), aB k 700 tp)] sz) := by
  refine Met.start (Qc := q_X8_feed D k o r mv fr I L tp x y z v w5 tj) (by decide) (Nat.le_of_ble_eq_true rfl) ?_
  intro p e s m below meth c A hx hb hr hlocks hml hown hin hts hg hP hD hA hAn hS hY hsz ls hl
  have hown : s.vm.findClass RX8 = some m.cls := hown
  have hl : lv_has ls 8 [(0, .ref o), (1, .int x), (2, .int y), (3, .int z), (4, .int v), (5, .int w5)] := hl
  refine lv_aload_n hx hb dX8_feed_0 rfl (lv_at hl 0 rfl) ?_
  refine lv_iconst (v := 0) hx hb dX8_feed_1 ci_0 ?_
  refine va_put (D := D) (ci := 10) (v := .int 0) (C := RX8) (T := TX8) (N := 37) hx hb hts in_X8 tyX8 tyX8_ok nmX8 hown hg.1 hP hD hS 0 rfl rfl 0 (Nat.le_of_ble_eq_true rfl) (hts _ q1141) (fun _ h9 => h9) rfl ftX8_0 rfl rfl (Nat.le_of_ble_eq_true rfl) dX8_feed_2 (fun H locs hP hD hS => ?_)
  replace hP : va_P D vwCl [(o, eMM r mv fr (upd I 0 0) L), ((r 5), aB k 700 tp)] H := hP
  replace hD : va_D A [(o, eMM r mv fr (upd I 0 0) L), ((r 5), aB k 700 tp)] := hD
  refine lv_aload_n hx hb dX8_feed_5 rfl (lv_at hl 0 rfl) ?_
  refine va_get (D := D) (ci := 10) (v := .int (I 6)) (C := RX8) (T := TX8) (N := 37) hx hb hts in_X8 hown hg.1 hP 0 rfl rfl 6 (Nat.le_of_ble_eq_true rfl) (hts _ q1147) (fun _ h9 => h9) rfl dX8_feed_6 ?_
  refine lv_bipush (v := 20) hx hb dX8_feed_9 cb_20 ?_
  refine lv_iadd hx hb dX8_feed_11 ?_
  refine lv_sipush (v := 700) hx hb dX8_feed_12 cs_700 ?_
  refine lv_icmp_le (tgt := 20) hx hb dX8_feed_15 (by decide) (fun c1 => ?_) (fun c1 => ?_)
  · have hroom := fd_room htj ht7 c1
    refine lv_iconst (v := 0) hx hb dX8_feed_20 ci_0 ?_
    refine lv_istore (lv' := [(6, .int 0), (0, .ref o), (1, .int x), (2, .int y), (3, .int z), (4, .int v), (5, .int w5)]) hx hb dX8_feed_21 hl (Nat.le_of_ble_eq_true rfl) rfl (fun ls hl => ?_)
    have loop2 : ∀ (n2 i2 : Nat) (X2 : (Int32) × (Nat → Int32)) (H : Heap) (locs : List Loc) (ls : Array Slot), i2 + n2 = 20 → X2 = itN (f_X8_feed_l23 x y z v w5 tj) i2 ((I 6), tp) → va_P D vwCl [(o, eMM r mv fr (upd (upd I 0 0) 6 X2.1) L), ((r 5), aB k 700 X2.2)] H → va_D A [(o, eMM r mv fr (upd (upd I 0 0) 6 X2.1) L), ((r 5), aB k 700 X2.2)] → va_S A s.heap H locs → lv_has ls 8 [(6, .int (nI i2)), (0, .ref o), (1, .int x), (2, .int y), (3, .int z), (4, .int v), (5, .int w5)] → W p l e rm_X8_feed s m ([.ref o, .int x, .int y, .int z, .int v, .int w5] : List Value).toArray below meth c H locs 0 0 (MQ below (q_X8_feed D k o r mv fr I L tp x y z v w5 tj A) ([.ref o, .int x, .int y, .int z, .int v, .int w5] : List Value).toArray s 0 0 A) (F0 m 23 ls []) := by
      intro n2
      induction n2 with
      | zero =>
        intro i2 X2 H locs ls hn2 eX2 hP hD hS hl
        have hi2 : i2 = 20 := by omega
        rw [hi2] at eX2
        refine lv_iload hx hb dX8_feed_23 (lv_at hl 0 rfl) ?_
        refine lv_bipush (v := 20) hx hb dX8_feed_25 cb_20 ?_
        refine lv_icmp_ge (tgt := 117) hx hb dX8_feed_27 (by decide) (fun _ => ?_) (fun c => absurd (xle_t xl_20 rfl (by omega) (by omega)) c)
        refine lv_aload_n hx hb dX8_feed_117 rfl (lv_at hl 1 rfl) ?_
        refine va_get (D := D) (ci := 10) (v := .int X2.1) (C := RX8) (T := TX8) (N := 37) hx hb hts in_X8 hown hg.1 hP 0 rfl rfl 6 (Nat.le_of_ble_eq_true rfl) (hts _ q1147) (fun _ h9 => h9) rfl dX8_feed_118 ?_
        exact xret_i hx hb hr hlocks (Nat.le_of_ble_eq_true rfl) (Nat.le_of_ble_eq_true rfl) hS.2.2 dX8_feed_121 (fun t ht => ⟨⟨X2.1, (X2.1, 0, X2.1, X2.2), rfl, ⟨rfl, (by subst eX2; exact Eq.symm (Eq.trans (if_pos c1) (rfl)))⟩, by rw [ht]; exact hP, hD⟩, hS.F ht⟩)
      | succ n2 ih2 =>
        intro i2 X2 H locs ls hn2 eX2 hP hD hS hl
        have hi2 : i2 < 20 := by omega
        refine lv_iload hx hb dX8_feed_23 (lv_at hl 0 rfl) ?_
        refine lv_bipush (v := 20) hx hb dX8_feed_25 cb_20 ?_
        refine lv_icmp_ge (tgt := 117) hx hb dX8_feed_27 (by decide) (fun c => absurd c (xle_f xl_20 rfl (by omega) (by omega))) (fun _ => ?_)
        have hgi2 : X2.1 = nI (tj + i2) := by
          rw [eX2]
          exact itN_inv (P := fun i (Y : (Int32) × (Nat → Int32)) => Y.1 = nI (tj + i)) (N := 20) htj (fun i Y hi hY => by show Y.1 + 1 = nI (tj + (i + 1)); rw [hY]; exact (nI_succ _).symm) i2 (by omega)
        refine lv_iload hx hb dX8_feed_30 (lv_at hl 0 rfl) ?_
        refine lv_iconst (v := 4) hx hb dX8_feed_32 ci_4 ?_
        have Jn4 : ∀ (v59 : (Int32)) (H : Heap) (locs : List Loc) (ls : Array Slot), v59 = f_X8_feed_j4 x y z v w5 i2 → va_P D vwCl [(o, eMM r mv fr (upd (upd I 0 0) 6 X2.1) L), ((r 5), aB k 700 X2.2)] H → va_D A [(o, eMM r mv fr (upd (upd I 0 0) 6 X2.1) L), ((r 5), aB k 700 X2.2)] → va_S A s.heap H locs → lv_has ls 8 [(6, .int (nI i2)), (0, .ref o), (1, .int x), (2, .int y), (3, .int z), (4, .int v), (5, .int w5)] → W p l e rm_X8_feed s m ([.ref o, .int x, .int y, .int z, .int v, .int w5] : List Value).toArray below meth c H locs 0 0 (MQ below (q_X8_feed D k o r mv fr I L tp x y z v w5 tj A) ([.ref o, .int x, .int y, .int z, .int v, .int w5] : List Value).toArray s 0 0 A) (F0 m 76 ls [.int v59]) := by
          intro v59 H locs ls ev59 hP hD hS hl
          refine lv_istore (lv' := [(7, .int v59), (6, .int (nI i2)), (0, .ref o), (1, .int x), (2, .int y), (3, .int z), (4, .int v), (5, .int w5)]) hx hb dX8_feed_76 hl (Nat.le_of_ble_eq_true rfl) rfl (fun ls hl => ?_)
          refine lv_aload_n hx hb dX8_feed_78 rfl (lv_at hl 2 rfl) ?_
          refine va_get (D := D) (ci := 10) (v := .ref (r 5)) (C := RX8) (T := TX8) (N := 37) hx hb hts in_X8 hown hg.1 hP 0 rfl rfl 5 (Nat.le_of_ble_eq_true rfl) (hts _ q1146) (fun _ h9 => h9) rfl dX8_feed_79 ?_
          refine lv_aload_n hx hb dX8_feed_82 rfl (lv_at hl 2 rfl) ?_
          refine va_get (D := D) (ci := 10) (v := .int X2.1) (C := RX8) (T := TX8) (N := 37) hx hb hts in_X8 hown hg.1 hP 0 rfl rfl 6 (Nat.le_of_ble_eq_true rfl) (hts _ q1147) (fun _ h9 => h9) rfl dX8_feed_83 ?_
          refine lv_iload hx hb dX8_feed_86 (lv_at hl 0 rfl) ?_
          refine lv_bipush (v := 24) hx hb dX8_feed_88 cb_24 ?_
          refine lv_bipush (v := 8) hx hb dX8_feed_90 cb_8 ?_
          refine lv_iload hx hb dX8_feed_92 (lv_at hl 1 rfl) ?_
          refine lv_iconst (v := 4) hx hb dX8_feed_94 ci_4 ?_
          refine lv_irem hx hb dX8_feed_95 (by decide) ?_
          refine lv_imul hx hb dX8_feed_96 ?_
          refine lv_isub hx hb dX8_feed_97 ?_
          refine lv_ishr hx hb dX8_feed_98 ?_
          refine lv_i2b hx hb dX8_feed_99 rfl ?_
          refine lv_topi (fun x60 ex60 => ?_)
          refine xa_bast hx hb hg hP hD hS 1 rfl hgi2 (by omega) (by omega) dX8_feed_100 (fun f61 H locs ef61 hP hD hS => ?_)
          replace hP : va_P D vwCl [(o, eMM r mv fr (upd (upd I 0 0) 6 X2.1) L), ((r 5), aB k 700 f61)] H := hP
          replace hD : va_D A [(o, eMM r mv fr (upd (upd I 0 0) 6 X2.1) L), ((r 5), aB k 700 f61)] := hD
          refine lv_aload_n hx hb dX8_feed_101 rfl (lv_at hl 2 rfl) ?_
          refine lv_dup hx hb dX8_feed_102 rfl ?_
          refine va_get (D := D) (ci := 10) (v := .int X2.1) (C := RX8) (T := TX8) (N := 37) hx hb hts in_X8 hown hg.1 hP 0 rfl rfl 6 (Nat.le_of_ble_eq_true rfl) (hts _ q1147) (fun _ h9 => h9) rfl dX8_feed_103 ?_
          refine lv_iconst (v := 1) hx hb dX8_feed_106 ci_1 ?_
          refine lv_iadd hx hb dX8_feed_107 ?_
          refine lv_topi (fun x62 ex62 => ?_)
          refine va_put (D := D) (ci := 10) (v := .int x62) (C := RX8) (T := TX8) (N := 37) hx hb hts in_X8 tyX8 tyX8_ok nmX8 hown hg.1 hP hD hS 0 rfl rfl 6 (Nat.le_of_ble_eq_true rfl) (hts _ q1147) (fun _ h9 => h9) rfl ftX8_6 rfl rfl (Nat.le_of_ble_eq_true rfl) dX8_feed_108 (fun H locs hP hD hS => ?_)
          replace hP : va_P D vwCl [(o, eMM r mv fr (upd (upd I 0 0) 6 x62) L), ((r 5), aB k 700 f61)] H := hP
          replace hD : va_D A [(o, eMM r mv fr (upd (upd I 0 0) 6 x62) L), ((r 5), aB k 700 f61)] := hD
          refine lv_iinc (v := (nI (i2 + 1))) (lv' := [(6, .int (nI (i2 + 1))), (7, .int v59), (0, .ref o), (1, .int x), (2, .int y), (3, .int z), (4, .int v), (5, .int w5)]) hx hb dX8_feed_111 hl (k := 1) rfl (xinc1 _) (Nat.le_of_ble_eq_true rfl) rfl (fun ls hl => ?_)
          refine lv_goto (tgt := 23) hx hb dX8_feed_114 (by decide) ?_
          exact ih2 (i2 + 1) (x62, f61) _ _ _ (by omega) (Eq.trans (by subst ex62; subst ef61; subst ex60; subst ev59; exact rfl) (congrArg (f_X8_feed_l23 x y z v w5 tj i2) eX2)) hP hD hS (lv_sub hl [0, 2, 3, 4, 5, 6, 7] rfl)
        refine lv_icmp_ge (tgt := 40) hx hb dX8_feed_33 (by decide) (fun c63 => ?_) (fun c63 => ?_)
        · refine lv_iload hx hb dX8_feed_40 (lv_at hl 0 rfl) ?_
          refine lv_bipush (v := 8) hx hb dX8_feed_42 cb_8 ?_
          refine lv_icmp_ge (tgt := 51) hx hb dX8_feed_44 (by decide) (fun c64 => ?_) (fun c64 => ?_)
          · refine lv_iload hx hb dX8_feed_51 (lv_at hl 0 rfl) ?_
            refine lv_bipush (v := 12) hx hb dX8_feed_53 cb_12 ?_
            refine lv_icmp_ge (tgt := 62) hx hb dX8_feed_55 (by decide) (fun c65 => ?_) (fun c65 => ?_)
            · refine lv_iload hx hb dX8_feed_62 (lv_at hl 0 rfl) ?_
              refine lv_bipush (v := 16) hx hb dX8_feed_64 cb_16 ?_
              refine lv_icmp_ge (tgt := 74) hx hb dX8_feed_66 (by decide) (fun c66 => ?_) (fun c66 => ?_)
              · refine lv_iload hx hb dX8_feed_74 (lv_at hl 6 rfl) ?_
                exact Jn4 w5 _ _ _ (by exact Eq.symm (Eq.trans (if_pos c63) (Eq.trans (if_pos c64) (Eq.trans (if_pos c65) (Eq.trans (if_pos c66) (rfl)))))) hP hD hS (lv_sub hl [0, 1, 2, 3, 4, 5, 6] rfl)
              · refine lv_iload hx hb dX8_feed_69 (lv_at hl 5 rfl) ?_
                refine lv_goto (tgt := 76) hx hb dX8_feed_71 (by decide) ?_
                exact Jn4 v _ _ _ (by exact Eq.symm (Eq.trans (if_pos c63) (Eq.trans (if_pos c64) (Eq.trans (if_pos c65) (Eq.trans (if_neg c66) (rfl)))))) hP hD hS (lv_sub hl [0, 1, 2, 3, 4, 5, 6] rfl)
            · refine lv_iload_n hx hb dX8_feed_58 rfl (lv_at hl 4 rfl) ?_
              refine lv_goto (tgt := 76) hx hb dX8_feed_59 (by decide) ?_
              exact Jn4 z _ _ _ (by exact Eq.symm (Eq.trans (if_pos c63) (Eq.trans (if_pos c64) (Eq.trans (if_neg c65) (rfl))))) hP hD hS (lv_sub hl [0, 1, 2, 3, 4, 5, 6] rfl)
          · refine lv_iload_n hx hb dX8_feed_47 rfl (lv_at hl 3 rfl) ?_
            refine lv_goto (tgt := 76) hx hb dX8_feed_48 (by decide) ?_
            exact Jn4 y _ _ _ (by exact Eq.symm (Eq.trans (if_pos c63) (Eq.trans (if_neg c64) (rfl)))) hP hD hS (lv_sub hl [0, 1, 2, 3, 4, 5, 6] rfl)
        · refine lv_iload_n hx hb dX8_feed_36 rfl (lv_at hl 2 rfl) ?_
          refine lv_goto (tgt := 76) hx hb dX8_feed_37 (by decide) ?_
          exact Jn4 x _ _ _ (by exact Eq.symm (Eq.trans (if_neg c63) (rfl))) hP hD hS (lv_sub hl [0, 1, 2, 3, 4, 5, 6] rfl)
    exact loop2 20 0 ((I 6), tp) _ _ _ (by omega) rfl hP hD hS (by have h := (lv_sub hl [0, 1, 2, 3, 4, 5, 6] rfl); exact h)
  · refine lv_iconst (v := (-1)) hx hb dX8_feed_18 ci_m1 ?_
    exact xret_i hx hb hr hlocks (Nat.le_of_ble_eq_true rfl) (Nat.le_of_ble_eq_true rfl) hS.2.2 dX8_feed_19 (fun t ht => ⟨⟨(-1), ((-1), 0, (I 6), tp), rfl, ⟨rfl, (by exact Eq.symm (Eq.trans (if_neg c1) (rfl)))⟩, by rw [ht]; exact hP, hD⟩, hS.F ht⟩)

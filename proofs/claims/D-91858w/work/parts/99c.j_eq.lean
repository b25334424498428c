set_option maxRecDepth 100000
def f_J6_equals_l9 (bs : Nat → Int32) (ds : Nat → Int32) : Nat → Nat → (Unit) → (Int32) ⊕ (Unit)
  | 0, i2, X2 => .inr X2
  | n2 + 1, i2, X2 => if (bs i2) = (ds i2) then
      f_J6_equals_l9 bs ds n2 (i2 + 1) ()
    else
      .inl 0
def f_J6_equals (yn : Nat) (bs : Nat → Int32) (zn : Nat) (ds : Nat → Int32) : Int32 :=
  if nI yn = nI zn then
    Sum.elim (fun r_ => r_) (fun X2 =>
      1) (f_J6_equals_l9 bs ds yn 0 ())
  else
    0
abbrev q_J6_equals (D : va_G) (k : KK) (av : Nat) (yn : Nat) (bs : Nat → Int32) (aw : Nat) (zn : Nat) (ds : Nat → Int32) (A : Nat → Prop) : Array Value → State → Outcome → State → Prop := va_Qi (fun (r_ : Int32) (u : Int32) => r_ = u ∧ u = f_J6_equals yn bs zn ds ∧ (r_ = 0 ∨ r_ = 1)) (bx D (fun u => []) A) A
abbrev rm_J6_equals : Room := { frames := 1, cells := 0, slots := 0, locals := 40 }
theorem xo_J6_equals : xok yJ6_equals 2 := by unfold xok; decide +kernel
set_option maxHeartbeats 8000000 in
theorem m_J6_equals (l : Launch) (D : va_G) (k : KK) (sz : Nat) (av : Nat) (yn : Nat) (bs : Nat → Int32) (aw : Nat) (zn : Nat) (ds : Nat → Int32) (hz : cz k) (hyb : yn < 2 ^ 31) (hzb : zn < 2 ^ 31) : Met l yJ6_equals (ws_ yJ6_equals cJ6_equals 3 (some .boolean)) rm_J6_equals (pcx D k [.ref av, .ref aw] sz [] (fun H => oldY k (va_A [] sz) H ∧ sAY k av yn bs (va_A [] sz) H ∧ sAY k aw zn ds (va_A [] sz) H)) (q_J6_equals D k av yn bs aw zn ds (va_A [] sz)) 0 0 (va_A [] sz) := by
  refine Met.start (Qc := q_J6_equals D k av yn bs aw zn ds) (by decide) (Nat.le_of_ble_eq_true rfl) ?_
  intro p e s m below meth c A hx hb hr hlocks hml hown hin hts hg hP hD hA hAn hS hY hsz ls hl
  have hown : s.vm.findClass RJ6 = some m.cls := hown
  have hl : lv_has ls 3 [(0, .ref av), (1, .ref aw)] := hl
  have hO := oldY.mono hY.1 hAn
  have ha0 := va_T.narrow hY.2.1 hAn
  have ha1 := va_T.narrow hY.2.2 hAn
  refine lv_aload_n hx hb dJ6_equals_0 rfl (lv_at hl 0 rfl) ?_
  refine xs_alen hx hb hg (sAY.at ha0 hS) dJ6_equals_1 ?_
  refine lv_aload_n hx hb dJ6_equals_2 rfl (lv_at hl 1 rfl) ?_
  refine xs_alen hx hb hg (sAY.at ha1 hS) dJ6_equals_3 ?_
  refine lv_icmp_ne (tgt := 34) hx hb dJ6_equals_4 (by decide) (fun c1 => ?_) (fun c1 => ?_)
  · refine lv_iconst (v := 0) hx hb dJ6_equals_34 ci_0 ?_
    exact xret_z hx hb hr hlocks (Nat.le_of_ble_eq_true rfl) (Nat.le_of_ble_eq_true rfl) hS.2.2 dJ6_equals_35 (Or.inl rfl) (fun t ht => ⟨⟨0, 0, rfl, ⟨rfl, (by exact Eq.symm (Eq.trans (if_neg c1) (rfl))), (Or.inl rfl)⟩, by rw [ht]; exact hP, hD⟩, hS.F ht⟩)
  · have hnn : yn = zn := nI_inj hyb hzb c1
    refine lv_iconst (v := 0) hx hb dJ6_equals_7 ci_0 ?_
    refine lv_istore_n (lv' := [(2, .int 0), (0, .ref av), (1, .ref aw)]) hx hb dJ6_equals_8 rfl hl (Nat.le_of_ble_eq_true rfl) rfl (fun ls hl => ?_)
    have loop2 : ∀ (n2 i2 : Nat) (X2 : Unit) (H : Heap) (locs : List Loc) (ls : Array Slot), i2 + n2 = yn → f_J6_equals_l9 bs ds n2 i2 X2 = f_J6_equals_l9 bs ds yn 0 () → va_P D vwCl [] H → va_D A [] → va_S A s.heap H locs → lv_has ls 3 [(2, .int (nI i2)), (0, .ref av), (1, .ref aw)] → W p l e rm_J6_equals s m ([.ref av, .ref aw] : List Value).toArray below meth c H locs 0 0 (MQ below (q_J6_equals D k av yn bs aw zn ds A) ([.ref av, .ref aw] : List Value).toArray s 0 0 A) (F0 m 9 ls []) := by
      intro n2
      induction n2 with
      | zero =>
        intro i2 X2 H locs ls hn2 eX2 hP hD hS hl
        have hi2 : i2 = yn := by omega
        replace eX2 : f_J6_equals_l9 bs ds yn 0 () = Sum.inr X2 := eX2.symm
        refine lv_iload_n hx hb dJ6_equals_9 rfl (lv_at hl 0 rfl) ?_
        refine lv_aload_n hx hb dJ6_equals_10 rfl (lv_at hl 1 rfl) ?_
        refine xs_alen hx hb hg (sAY.at ha0 hS) dJ6_equals_11 ?_
        refine lv_icmp_ge (tgt := 32) hx hb dJ6_equals_12 (by decide) (fun _ => ?_) (fun c => absurd (xle_t rfl rfl (by omega) (by omega)) c)
        refine lv_iconst (v := 1) hx hb dJ6_equals_32 ci_1 ?_
        exact xret_z hx hb hr hlocks (Nat.le_of_ble_eq_true rfl) (Nat.le_of_ble_eq_true rfl) hS.2.2 dJ6_equals_33 (Or.inr rfl) (fun t ht => ⟨⟨1, 1, rfl, ⟨rfl, (by exact Eq.symm (Eq.trans (if_pos c1) (Eq.trans (xm_r eX2) (rfl)))), (Or.inr rfl)⟩, by rw [ht]; exact hP, hD⟩, hS.F ht⟩)
      | succ n2 ih2 =>
        intro i2 X2 H locs ls hn2 eX2 hP hD hS hl
        have hi2 : i2 < yn := by omega
        refine lv_iload_n hx hb dJ6_equals_9 rfl (lv_at hl 0 rfl) ?_
        refine lv_aload_n hx hb dJ6_equals_10 rfl (lv_at hl 1 rfl) ?_
        refine xs_alen hx hb hg (sAY.at ha0 hS) dJ6_equals_11 ?_
        refine lv_icmp_ge (tgt := 32) hx hb dJ6_equals_12 (by decide) (fun c => absurd c (xle_f rfl rfl (by omega) (by omega))) (fun _ => ?_)
        refine lv_aload_n hx hb dJ6_equals_15 rfl (lv_at hl 1 rfl) ?_
        refine lv_iload_n hx hb dJ6_equals_16 rfl (lv_at hl 0 rfl) ?_
        refine xs_bald hx hb hg (sAY.at ha0 hS) rfl (by omega) (by omega) dJ6_equals_17 ?_
        refine lv_aload_n hx hb dJ6_equals_18 rfl (lv_at hl 2 rfl) ?_
        refine lv_iload_n hx hb dJ6_equals_19 rfl (lv_at hl 0 rfl) ?_
        refine xs_bald hx hb hg (sAY.at ha1 hS) rfl (by omega) (by omega) dJ6_equals_20 ?_
        refine lv_icmp_eq (tgt := 26) hx hb dJ6_equals_21 (by decide) (fun c5 => ?_) (fun c5 => ?_)
        · refine lv_iinc (v := (nI (i2 + 1))) (lv' := [(2, .int (nI (i2 + 1))), (0, .ref av), (1, .ref aw)]) hx hb dJ6_equals_26 hl (k := 0) rfl (xinc1 _) (Nat.le_of_ble_eq_true rfl) rfl (fun ls hl => ?_)
          refine lv_goto (tgt := 9) hx hb dJ6_equals_29 (by decide) ?_
          exact ih2 (i2 + 1) () _ _ _ (by omega) (Eq.trans (by exact Eq.symm (Eq.trans (if_pos c5) (rfl))) eX2) hP hD hS (lv_sub hl [0, 1, 2] rfl)
        · refine lv_iconst (v := 0) hx hb dJ6_equals_24 ci_0 ?_
          exact xret_z hx hb hr hlocks (Nat.le_of_ble_eq_true rfl) (Nat.le_of_ble_eq_true rfl) hS.2.2 dJ6_equals_25 (Or.inl rfl) (fun t ht => ⟨⟨0, 0, rfl, ⟨rfl, (by exact Eq.symm (Eq.trans (if_pos c1) (xm_l0 (Eq.trans eX2.symm (Eq.trans (if_neg c5) (rfl)))))), (Or.inl rfl)⟩, by rw [ht]; exact hP, hD⟩, hS.F ht⟩)
    exact loop2 yn 0 () _ _ _ (by omega) rfl hP hD hS (lv_sub hl [0, 1, 2] rfl)

def f_J3_equals_j1 (u1 : Int32) : (Int32) :=
  if u1 = 0 then
    0
  else
    1
def f_J3_equals (wn : Nat) (wb : Nat → Int32) (vn : Nat) (vb : Nat → Int32) : Int32 :=
  let u1 := f_J6_equals wn wb vn vb
  let v4 := f_J3_equals_j1 u1
  v4
abbrev q_J3_equals (D : va_G) (k : KK) (w : Nat) (wv : Nat) (wn : Nat) (wb : Nat → Int32) (v : Nat) (vv : Nat) (vn : Nat) (vb : Nat → Int32) (A : Nat → Prop) : Array Value → State → Outcome → State → Prop := va_Qi (fun (r_ : Int32) (u : Int32) => r_ = u ∧ u = f_J3_equals wn wb vn vb ∧ (r_ = 0 ∨ r_ = 1)) (bx D (fun u => []) A) A
abbrev rm_J3_equals : Room := { frames := 2, cells := 0, slots := 0, locals := 80 }
theorem xo_J3_equals : xok yJ3_equals 1 := by unfold xok; decide +kernel
set_option maxHeartbeats 8000000 in
theorem m_J3_equals (l : Launch) (D : va_G) (k : KK) (sz : Nat) (w : Nat) (wv : Nat) (wn : Nat) (wb : Nat → Int32) (v : Nat) (vv : Nat) (vn : Nat) (vb : Nat → Int32) (hz : cz k) (hwb : wn < 2 ^ 31) (hvb : vn < 2 ^ 31) (hne : w ≠ v) : Met l yJ3_equals (ws_ yJ3_equals cJ3_equals 3 (some .boolean)) rm_J3_equals (pcx D k [.ref w, .ref v] sz [] (fun H => oldY k (va_A [] sz) H ∧ sY D k w wv wn wb (va_A [] sz) H ∧ sY D k v vv vn vb (va_A [] sz) H)) (q_J3_equals D k w wv wn wb v vv vn vb (va_A [] sz)) 0 0 (va_A [] sz) := by
  refine Met.start (Qc := q_J3_equals D k w wv wn wb v vv vn vb) (by decide) (Nat.le_of_ble_eq_true rfl) ?_
  intro p e s m below meth c A hx hb hr hlocks hml hown hin hts hg hP hD hA hAn hS hY hsz ls hl
  have hown : s.vm.findClass RJ3 = some m.cls := hown
  have hl : lv_has ls 3 [(0, .ref w), (1, .ref v)] := hl
  have hO := oldY.mono hY.1 hAn
  have hs0 := sY.mono hY.2.1 hAn
  have hs1 := sY.mono hY.2.2 hAn
  refine lv_aload_n hx hb dJ3_equals_0 rfl (lv_at hl 0 rfl) ?_
  refine lv_aload_n hx hb dJ3_equals_1 rfl (lv_at hl 1 rfl) ?_
  refine W.eq (g2 := F0 m 2 ls (va_rf (some v) :: va_rf (some w) :: [])) rfl ?_
  refine lv_acmp_ne (tgt := 7) hx hb dJ3_equals_2 (by decide) (fun _ => ?_) (fun c => absurd (Option.some.inj c) hne)
  refine lv_aload_n hx hb dJ3_equals_7 rfl (lv_at hl 1 rfl) ?_
  refine va_instE hx hb hown (hts _ q731) ((hs1.at hS).1.recv hg) dJ3_equals_8 ?_
  refine lv_if_eq (tgt := 54) hx hb dJ3_equals_11 (by decide) (fun c => absurd c (by decide)) (fun _ => ?_)
  refine lv_aload_n hx hb dJ3_equals_14 rfl (lv_at hl 1 rfl) ?_
  refine va_castE hx hb hown (hts _ q731) ((hs1.at hS).1.recv hg) dJ3_equals_15 ?_
  refine lv_astore_n (lv' := [(2, .ref v), (0, .ref w), (1, .ref v)]) hx hb dJ3_equals_18 rfl hl (Nat.le_of_ble_eq_true rfl) rfl (fun ls hl => ?_)
  refine va_gets hx hb (va_Z.old hz.2.2.2.1 hg hO) hS hown (hts _ q600) (fun _ h9 => h9) dJ3_equals_19 ?_
  refine lv_if_eq (tgt := 36) hx hb dJ3_equals_22 (by decide) (fun c => absurd c (by decide)) (fun _ => ?_)
  refine lv_aload_n hx hb dJ3_equals_25 rfl (lv_at hl 1 rfl) ?_
  refine xs_cod hx hb hts hown hg (hs0.at hS).1 (hts _ q645) dJ3_equals_26 ?_
  refine lv_aload_n hx hb dJ3_equals_29 rfl (lv_at hl 0 rfl) ?_
  refine xs_cod hx hb hts hown hg (hs1.at hS).1 (hts _ q645) dJ3_equals_30 ?_
  refine lv_icmp_ne (tgt := 54) hx hb dJ3_equals_33 (by decide) (fun c => absurd (by decide) c) (fun _ => ?_)
  refine lv_aload_n hx hb dJ3_equals_36 rfl (lv_at hl 1 rfl) ?_
  refine xs_val hx hb hts hown hg (hs0.at hS).1 (hts _ q644) dJ3_equals_37 ?_
  refine lv_aload_n hx hb dJ3_equals_40 rfl (lv_at hl 0 rfl) ?_
  refine xs_val hx hb hts hown hg (hs1.at hS).1 (hts _ q644) dJ3_equals_41 ?_
  refine xc_i (wc := []) (wr := []) hP hD hS hA [] [] rfl rfl rfl (by decide) (xrS ⟨hx, hb, hml, hown, hts⟩ hg (m_J6_equals l D k _ wv wn wb vv vn vb hz hwb hvb) hP hD [] rfl rfl ⟨oldY.call hO hS (va_free (wc := []) hD hS hA [] rfl), va_T.narrow (hs0.at hS).2 (va_free (wc := []) hD hS hA [] rfl), va_T.narrow (hs1.at hS).2 (va_free (wc := []) hD hS hA [] rfl)⟩ q732 q733 q98 q734 xo_J6_equals ⟨rfl, rfl⟩ ⟨Nat.le_of_ble_eq_true rfl, Nat.le_of_ble_eq_true rfl⟩ hl.1 (Nat.le_of_ble_eq_true rfl) dJ3_equals_44 ⟨Nat.le_of_ble_eq_true rfl, Nat.le_of_ble_eq_true rfl⟩ rfl) (fun u1 r_ H locs hw hP hD hS hk => ?_)
  obtain ⟨rfl, eu1, bu1⟩ := hw
  replace hP : va_P D vwCl [] H := hP.sub [] rfl
  replace hD : va_D A [] := hD.sub [] (by decide) rfl
  have Jn1 : ∀ (v4 : (Int32)) (H : Heap) (locs : List Loc) (ls : Array Slot), v4 = f_J3_equals_j1 u1 → (v4 = 0 ∨ v4 = 1) → va_P D vwCl [] H → va_D A [] → va_S A s.heap H locs → lv_has ls 3 [(2, .ref v), (0, .ref w), (1, .ref v)] → W p l e rm_J3_equals s m ([.ref w, .ref v] : List Value).toArray below meth c H locs 0 0 (MQ below (q_J3_equals D k w wv wn wb v vv vn vb A) ([.ref w, .ref v] : List Value).toArray s 0 0 A) (F0 m 55 ls [.int v4]) := by
    intro v4 H locs ls ev4 bv4_0 hP hD hS hl
    exact xret_z hx hb hr hlocks (Nat.le_of_ble_eq_true rfl) (Nat.le_of_ble_eq_true rfl) hS.2.2 dJ3_equals_55 bv4_0 (fun t ht => ⟨⟨v4, v4, rfl, ⟨rfl, (by subst ev4; subst eu1; exact rfl), bv4_0⟩, by rw [ht]; exact hP, hD⟩, hS.F ht⟩)
  refine lv_if_eq (tgt := 54) hx hb dJ3_equals_47 (by decide) (fun c5 => ?_) (fun c5 => ?_)
  · refine lv_iconst (v := 0) hx hb dJ3_equals_54 ci_0 ?_
    exact Jn1 0 _ _ _ (by exact Eq.symm (Eq.trans (if_pos c5) (rfl))) (Or.inl rfl) hP hD hS (lv_sub hl [0, 1, 2] rfl)
  · refine lv_iconst (v := 1) hx hb dJ3_equals_50 ci_1 ?_
    refine lv_goto (tgt := 55) hx hb dJ3_equals_51 (by decide) ?_
    exact Jn1 1 _ _ _ (by exact Eq.symm (Eq.trans (if_neg c5) (rfl))) (Or.inr rfl) hP hD hS (lv_sub hl [0, 1, 2] rfl)

def f_J7_signedHashCode_l8 (bf : Nat → Int32) (i2 : Nat) (X2 : (Int32)) : (Int32) :=
  let x6 := ((31 * X2) + ((bf i2) &&& 255))
  x6
def f_J7_signedHashCode (bf : Nat → Int32) (yn : Nat) (h0 : Int32) (y : Int32) : Int32 :=
  let x1 := (0 + y)
  let X2 := itN (f_J7_signedHashCode_l8 bf) (0 + yn) h0
  X2
abbrev q_J7_signedHashCode (D : va_G) (k : KK) (ba : Nat) (bf : Nat → Int32) (yn : Nat) (h0 : Int32) (y : Int32) (A : Nat → Prop) : Array Value → State → Outcome → State → Prop := va_Qi (fun (r_ : Int32) (u : Int32) => r_ = u ∧ u = f_J7_signedHashCode bf yn h0 y) (bx D (fun u => [(ba, aB k yn bf)]) A) A
abbrev rm_J7_signedHashCode : Room := { frames := 1, cells := 0, slots := 0, locals := 40 }
theorem xo_J7_signedHashCode : xok yJ7_signedHashCode 4 := by unfold xok; decide +kernel
set_option maxHeartbeats 8000000 in
theorem m_J7_signedHashCode (l : Launch) (D : va_G) (k : KK) (sz : Nat) (ba : Nat) (bf : Nat → Int32) (yn : Nat) (h0 : Int32) (y : Int32) (hyb : yn < 2 ^ 31) (hy_ : y = nI yn) : Met l yJ7_signedHashCode (ws_ yJ7_signedHashCode cJ7_signedHashCode 6 (some .int)) rm_J7_signedHashCode (pcx D k [.int h0, .ref ba, .int 0, .int y] sz [(ba, aB k yn bf)] (fun _ => True)) (q_J7_signedHashCode D k ba bf yn h0 y (va_A [(ba, aB k yn bf)] sz)) 0 0 (va_A [(ba, aB k yn bf)] sz) := by
  refine Met.start (Qc := q_J7_signedHashCode D k ba bf yn h0 y) (by decide) (Nat.le_of_ble_eq_true rfl) ?_
  intro p e s m below meth c A hx hb hr hlocks hml hown hin hts hg hP hD hA hAn hS hY hsz ls hl
  have hown : s.vm.findClass RJ7 = some m.cls := hown
  have hl : lv_has ls 6 [(0, .int h0), (1, .ref ba), (2, .int 0), (3, .int y)] := hl
  refine lv_iload_n hx hb dJ7_signedHashCode_0 rfl (lv_at hl 2 rfl) ?_
  refine lv_iload_n hx hb dJ7_signedHashCode_1 rfl (lv_at hl 3 rfl) ?_
  refine lv_iadd hx hb dJ7_signedHashCode_2 ?_
  refine lv_topi (fun x1 ex1 => ?_)
  refine lv_istore (lv' := [(4, .int x1), (0, .int h0), (1, .ref ba), (2, .int 0), (3, .int y)]) hx hb dJ7_signedHashCode_3 hl (Nat.le_of_ble_eq_true rfl) rfl (fun ls hl => ?_)
  refine lv_iload_n hx hb dJ7_signedHashCode_5 rfl (lv_at hl 3 rfl) ?_
  refine lv_istore (lv' := [(5, .int 0), (4, .int x1), (0, .int h0), (1, .ref ba), (2, .int 0), (3, .int y)]) hx hb dJ7_signedHashCode_6 hl (Nat.le_of_ble_eq_true rfl) rfl (fun ls hl => ?_)
  have loop2 : ∀ (n2 i2 : Nat) (X2 : (Int32)) (H : Heap) (locs : List Loc) (ls : Array Slot), i2 + n2 = 0 + yn → X2 = itN (f_J7_signedHashCode_l8 bf) i2 h0 → va_P D vwCl [(ba, aB k yn bf)] H → va_D A [(ba, aB k yn bf)] → va_S A s.heap H locs → lv_has ls 6 [(5, .int (nI i2)), (4, .int x1), (0, .int X2), (1, .ref ba), (2, .int 0), (3, .int y)] → W p l e rm_J7_signedHashCode s m ([.int h0, .ref ba, .int 0, .int y] : List Value).toArray below meth c H locs 0 0 (MQ below (q_J7_signedHashCode D k ba bf yn h0 y A) ([.int h0, .ref ba, .int 0, .int y] : List Value).toArray s 0 0 A) (F0 m 8 ls []) := by
    intro n2
    induction n2 with
    | zero =>
      intro i2 X2 H locs ls hn2 eX2 hP hD hS hl
      have hi2 : i2 = 0 + yn := by omega
      rw [hi2] at eX2
      refine lv_iload hx hb dJ7_signedHashCode_8 (lv_at hl 0 rfl) ?_
      refine lv_iload hx hb dJ7_signedHashCode_10 (lv_at hl 1 rfl) ?_
      refine lv_icmp_ge (tgt := 35) hx hb dJ7_signedHashCode_12 (by decide) (fun _ => ?_) (fun c => absurd (xle_t (ex1.trans (xnadd xl_0 hy_)) rfl (by omega) (by omega)) c)
      refine lv_iload_n hx hb dJ7_signedHashCode_35 rfl (lv_at hl 2 rfl) ?_
      exact xret_i hx hb hr hlocks (Nat.le_of_ble_eq_true rfl) (Nat.le_of_ble_eq_true rfl) hS.2.2 dJ7_signedHashCode_36 (fun t ht => ⟨⟨X2, X2, rfl, ⟨rfl, (by subst eX2; subst ex1; exact rfl)⟩, by rw [ht]; exact hP, hD⟩, hS.F ht⟩)
    | succ n2 ih2 =>
      intro i2 X2 H locs ls hn2 eX2 hP hD hS hl
      have hi2 : i2 < 0 + yn := by omega
      refine lv_iload hx hb dJ7_signedHashCode_8 (lv_at hl 0 rfl) ?_
      refine lv_iload hx hb dJ7_signedHashCode_10 (lv_at hl 1 rfl) ?_
      refine lv_icmp_ge (tgt := 35) hx hb dJ7_signedHashCode_12 (by decide) (fun c => absurd c (xle_f (ex1.trans (xnadd xl_0 hy_)) rfl (by omega) (by omega))) (fun _ => ?_)
      refine lv_bipush (v := 31) hx hb dJ7_signedHashCode_15 cb_31 ?_
      refine lv_iload_n hx hb dJ7_signedHashCode_17 rfl (lv_at hl 2 rfl) ?_
      refine lv_imul hx hb dJ7_signedHashCode_18 ?_
      refine lv_aload_n hx hb dJ7_signedHashCode_19 rfl (lv_at hl 3 rfl) ?_
      refine lv_iload hx hb dJ7_signedHashCode_20 (lv_at hl 0 rfl) ?_
      refine xa_bald hx hb hg hP 0 rfl rfl (by first | omega | exact Nat.lt_of_lt_of_le (Nat.mod_lt _ (by omega)) (by omega)) (by omega) dJ7_signedHashCode_22 ?_
      refine lv_sipush (v := 255) hx hb dJ7_signedHashCode_23 cs_255 ?_
      refine lv_iand hx hb dJ7_signedHashCode_26 ?_
      refine lv_iadd hx hb dJ7_signedHashCode_27 ?_
      refine lv_topi (fun x6 ex6 => ?_)
      refine lv_istore_n (lv' := [(0, .int x6), (5, .int (nI i2)), (4, .int x1), (1, .ref ba), (2, .int 0), (3, .int y)]) hx hb dJ7_signedHashCode_28 rfl hl (Nat.le_of_ble_eq_true rfl) rfl (fun ls hl => ?_)
      refine lv_iinc (v := (nI (i2 + 1))) (lv' := [(5, .int (nI (i2 + 1))), (0, .int x6), (4, .int x1), (1, .ref ba), (2, .int 0), (3, .int y)]) hx hb dJ7_signedHashCode_29 hl (k := 1) rfl (xinc1 _) (Nat.le_of_ble_eq_true rfl) rfl (fun ls hl => ?_)
      refine lv_goto (tgt := 8) hx hb dJ7_signedHashCode_32 (by decide) ?_
      exact ih2 (i2 + 1) x6 _ _ _ (by omega) (Eq.trans (by subst ex6; exact rfl) (congrArg (f_J7_signedHashCode_l8 bf i2) eX2)) hP hD hS (lv_sub hl [0, 2, 1, 3, 4, 5] rfl)
  exact loop2 (0 + yn) 0 h0 _ _ _ (by omega) rfl hP hD hS (by have h := (lv_sub hl [0, 1, 2, 3, 4, 5] rfl); exact h)

def f_J7_vectorizedHashCode (bf : Nat → Int32) (yn : Nat) (h0 : Int32) (y : Int32) : Int32 :=
  let u1 := f_J7_signedHashCode bf yn h0 y
  u1
abbrev q_J7_vectorizedHashCode (D : va_G) (k : KK) (ba : Nat) (bf : Nat → Int32) (yn : Nat) (h0 : Int32) (y : Int32) (A : Nat → Prop) : Array Value → State → Outcome → State → Prop := va_Qi (fun (r_ : Int32) (u : Int32) => r_ = u ∧ u = f_J7_vectorizedHashCode bf yn h0 y) (bx D (fun u => [(ba, aB k yn bf)]) A) A
abbrev rm_J7_vectorizedHashCode : Room := { frames := 2, cells := 0, slots := 0, locals := 80 }
theorem xo_J7_vectorizedHashCode : xok yJ7_vectorizedHashCode 5 := by unfold xok; decide +kernel
set_option maxHeartbeats 8000000 in
theorem m_J7_vectorizedHashCode (l : Launch) (D : va_G) (k : KK) (sz : Nat) (ba : Nat) (bf : Nat → Int32) (yn : Nat) (h0 : Int32) (y : Int32) (hyb : yn < 2 ^ 31) (hy_ : y = nI yn) : Met l yJ7_vectorizedHashCode (ws_ yJ7_vectorizedHashCode cJ7_vectorizedHashCode 5 (some .int)) rm_J7_vectorizedHashCode (pcx D k [.ref ba, .int 0, .int y, .int h0, .int 4] sz [(ba, aB k yn bf)] (fun _ => True)) (q_J7_vectorizedHashCode D k ba bf yn h0 y (va_A [(ba, aB k yn bf)] sz)) 0 0 (va_A [(ba, aB k yn bf)] sz) := by
  refine Met.start (Qc := q_J7_vectorizedHashCode D k ba bf yn h0 y) (by decide) (Nat.le_of_ble_eq_true rfl) ?_
  intro p e s m below meth c A hx hb hr hlocks hml hown hin hts hg hP hD hA hAn hS hY hsz ls hl
  have hown : s.vm.findClass RJ7 = some m.cls := hown
  have hl : lv_has ls 5 [(0, .ref ba), (1, .int 0), (2, .int y), (3, .int h0), (4, .int 4)] := hl
  refine lv_iload hx hb dJ7_vectorizedHashCode_0 (lv_at hl 4 rfl) ?_
  refine lv_tableIn (off := 42) (tgt := 44) hx hb dJ7_vectorizedHashCode_2 (by decide) (by decide) (by decide) (by decide) ?_
  refine lv_iload_n hx hb dJ7_vectorizedHashCode_44 rfl (lv_at hl 3 rfl) ?_
  refine lv_aload_n hx hb dJ7_vectorizedHashCode_45 rfl (lv_at hl 0 rfl) ?_
  refine va_castA hx hb hown (hts _ q687) hP 0 rfl (nmB hg) dJ7_vectorizedHashCode_46 ?_
  refine lv_iload_n hx hb dJ7_vectorizedHashCode_49 rfl (lv_at hl 1 rfl) ?_
  refine lv_iload_n hx hb dJ7_vectorizedHashCode_50 rfl (lv_at hl 2 rfl) ?_
  refine xc_i (wc := [(ba, aB k yn bf)]) (wr := []) hP hD hS hA [0] [] rfl rfl rfl (by decide) (xrS ⟨hx, hb, hml, hown, hts⟩ hg (m_J7_signedHashCode l D k _ ba bf yn h0 y hyb hy_) hP hD [0] rfl rfl trivial q688 q689 q99 q690 xo_J7_signedHashCode ⟨rfl, rfl⟩ ⟨Nat.le_of_ble_eq_true rfl, Nat.le_of_ble_eq_true rfl⟩ hl.1 (Nat.le_of_ble_eq_true rfl) dJ7_vectorizedHashCode_51 ⟨Nat.le_of_ble_eq_true rfl, Nat.le_of_ble_eq_true rfl⟩ rfl) (fun u1 r_ H locs hw hP hD hS hk => ?_)
  obtain ⟨rfl, eu1⟩ := hw
  replace hP : va_P D vwCl [(ba, aB k yn bf)] H := hP.sub [0] rfl
  replace hD : va_D A [(ba, aB k yn bf)] := hD.sub [0] (by decide) rfl
  refine lv_goto (tgt := 157) hx hb dJ7_vectorizedHashCode_54 (by decide) ?_
  exact xret_i hx hb hr hlocks (Nat.le_of_ble_eq_true rfl) (Nat.le_of_ble_eq_true rfl) hS.2.2 dJ7_vectorizedHashCode_157 (fun t ht => ⟨⟨u1, u1, rfl, ⟨rfl, (by subst eu1; exact rfl)⟩, by rw [ht]; exact hP, hD⟩, hS.F ht⟩)

def f_J6_hashCode_j1 (bf : Nat → Int32) (yn : Nat) : (Int32) :=
  if nI yn = 0 then
    0
  else
    if nI yn = 1 then
      ((bf 0) &&& 255)
    else
      let u10 := f_J7_vectorizedHashCode bf yn 0 (nI yn)
      u10
def f_J6_hashCode (bf : Nat → Int32) (yn : Nat) : Int32 :=
  let v7 := f_J6_hashCode_j1 bf yn
  v7
abbrev q_J6_hashCode (D : va_G) (k : KK) (ba : Nat) (bf : Nat → Int32) (yn : Nat) (A : Nat → Prop) : Array Value → State → Outcome → State → Prop := va_Qi (fun (r_ : Int32) (u : Int32) => r_ = u ∧ u = f_J6_hashCode bf yn) (bx D (fun u => [(ba, aB k yn bf)]) A) A
abbrev rm_J6_hashCode : Room := { frames := 3, cells := 0, slots := 0, locals := 120 }
theorem xo_J6_hashCode : xok yJ6_hashCode 1 := by unfold xok; decide +kernel
set_option maxHeartbeats 8000000 in
theorem m_J6_hashCode (l : Launch) (D : va_G) (k : KK) (sz : Nat) (ba : Nat) (bf : Nat → Int32) (yn : Nat) (hyb : yn < 2 ^ 31) (hy1 : 1 ≤ yn) : Met l yJ6_hashCode (ws_ yJ6_hashCode cJ6_hashCode 1 (some .int)) rm_J6_hashCode (pcx D k [.ref ba] sz [(ba, aB k yn bf)] (fun _ => True)) (q_J6_hashCode D k ba bf yn (va_A [(ba, aB k yn bf)] sz)) 0 0 (va_A [(ba, aB k yn bf)] sz) := by
  refine Met.start (Qc := q_J6_hashCode D k ba bf yn) (by decide) (Nat.le_of_ble_eq_true rfl) ?_
  intro p e s m below meth c A hx hb hr hlocks hml hown hin hts hg hP hD hA hAn hS hY hsz ls hl
  have hown : s.vm.findClass RJ6 = some m.cls := hown
  have hl : lv_has ls 1 [(0, .ref ba)] := hl
  refine lv_aload_n hx hb dJ6_hashCode_0 rfl (lv_at hl 0 rfl) ?_
  refine va_alen (v := nI yn) hx hb hg.1 hP 0 1 rfl rfl rfl dJ6_hashCode_1 ?_
  have Jn1 : ∀ (v7 : (Int32)) (H : Heap) (locs : List Loc) (ls : Array Slot), v7 = f_J6_hashCode_j1 bf yn → va_P D vwCl [(ba, aB k yn bf)] H → va_D A [(ba, aB k yn bf)] → va_S A s.heap H locs → lv_has ls 1 [(0, .ref ba)] → W p l e rm_J6_hashCode s m ([.ref ba] : List Value).toArray below meth c H locs 0 0 (MQ below (q_J6_hashCode D k ba bf yn A) ([.ref ba] : List Value).toArray s 0 0 A) (F0 m 51 ls [.int v7]) := by
    intro v7 H locs ls ev7 hP hD hS hl
    exact xret_i hx hb hr hlocks (Nat.le_of_ble_eq_true rfl) (Nat.le_of_ble_eq_true rfl) hS.2.2 dJ6_hashCode_51 (fun t ht => ⟨⟨v7, v7, rfl, ⟨rfl, (by subst ev7; exact rfl)⟩, by rw [ht]; exact hP, hD⟩, hS.F ht⟩)
  by_cases c8 : nI yn = 0
  · refine lv_lookup (off := 26) (tgt := 28) hx hb dJ6_hashCode_2 (by decide) (by rw [c8]; decide) (by decide) ?_
    refine lv_iconst (v := 0) hx hb dJ6_hashCode_28 ci_0 ?_
    refine lv_goto (tgt := 51) hx hb dJ6_hashCode_29 (by decide) ?_
    exact Jn1 0 _ _ _ (by exact Eq.symm (Eq.trans (if_pos c8) (rfl))) hP hD hS (lv_sub hl [0] rfl)
  · by_cases c9 : nI yn = 1
    · refine lv_lookup (off := 30) (tgt := 32) hx hb dJ6_hashCode_2 (by decide) (by rw [c9]; decide) (by decide) ?_
      refine lv_aload_n hx hb dJ6_hashCode_32 rfl (lv_at hl 0 rfl) ?_
      refine lv_iconst (v := 0) hx hb dJ6_hashCode_33 ci_0 ?_
      refine xa_bald hx hb hg hP 0 rfl xl_0 (by first | omega | exact Nat.lt_of_lt_of_le (Nat.mod_lt _ (by omega)) (by omega)) (by omega) dJ6_hashCode_34 ?_
      refine lv_sipush (v := 255) hx hb dJ6_hashCode_35 cs_255 ?_
      refine lv_iand hx hb dJ6_hashCode_38 ?_
      refine lv_goto (tgt := 51) hx hb dJ6_hashCode_39 (by decide) ?_
      exact Jn1 ((bf 0) &&& 255) _ _ _ (by exact Eq.symm (Eq.trans (if_neg c8) (Eq.trans (if_pos c9) (rfl)))) hP hD hS (lv_sub hl [0] rfl)
    · refine lv_lookup (off := 40) (tgt := 42) hx hb dJ6_hashCode_2 (by decide) (by show Op.lookupswitch.offset [(0, 26), (1, 30)] (40) _ = _; rw [lv_osw c8 (show (0 : Int32).toInt = 0 from by decide)]; rw [lv_osw c9 (show (1 : Int32).toInt = 1 from by decide)]; rfl) (by decide) ?_
      refine lv_aload_n hx hb dJ6_hashCode_42 rfl (lv_at hl 0 rfl) ?_
      refine lv_iconst (v := 0) hx hb dJ6_hashCode_43 ci_0 ?_
      refine lv_aload_n hx hb dJ6_hashCode_44 rfl (lv_at hl 0 rfl) ?_
      refine va_alen (v := nI yn) hx hb hg.1 hP 0 1 rfl rfl rfl dJ6_hashCode_45 ?_
      refine lv_iconst (v := 0) hx hb dJ6_hashCode_46 ci_0 ?_
      refine lv_iconst (v := 4) hx hb dJ6_hashCode_47 ci_4 ?_
      refine xc_i (wc := [(ba, aB k yn bf)]) (wr := []) hP hD hS hA [0] [] rfl rfl rfl (by decide) (xrS ⟨hx, hb, hml, hown, hts⟩ hg (m_J7_vectorizedHashCode l D k _ ba bf yn 0 (nI yn) hyb rfl) hP hD [0] rfl rfl trivial q684 q685 q99 q686 xo_J7_vectorizedHashCode ⟨rfl, rfl⟩ ⟨Nat.le_of_ble_eq_true rfl, Nat.le_of_ble_eq_true rfl⟩ hl.1 (Nat.le_of_ble_eq_true rfl) dJ6_hashCode_48 ⟨Nat.le_of_ble_eq_true rfl, Nat.le_of_ble_eq_true rfl⟩ rfl) (fun u10 r_ H locs hw hP hD hS hk => ?_)
      obtain ⟨rfl, eu10⟩ := hw
      replace hP : va_P D vwCl [(ba, aB k yn bf)] H := hP.sub [0] rfl
      replace hD : va_D A [(ba, aB k yn bf)] := hD.sub [0] (by decide) rfl
      exact Jn1 u10 _ _ _ (by subst eu10; exact Eq.symm (Eq.trans (if_neg c8) (Eq.trans (if_neg c9) (rfl)))) hP hD hS (lv_sub hl [0] rfl)

def f_J3_hashCode (I : Nat → Int32) (yn : Nat) (bf : Nat → Int32) : Int32 × Int32 × Int32 :=
  let x1 := (I 2)
  if x1 = 0 then
    if (I 3) = 0 then
      let u4 := f_J3_isLatin1
      let u5 := f_J6_hashCode bf yn
      if u5 = 0 then
        (u5, (I 2), 1)
      else
        (u5, u5, (I 3))
    else
      (x1, (I 2), (I 3))
  else
    (x1, (I 2), (I 3))
abbrev q_J3_hashCode (D : va_G) (k : KK) (a : Nat) (rs : Nat → Nat) (I : Nat → Int32) (yn : Nat) (bf : Nat → Int32) (A : Nat → Prop) : Array Value → State → Outcome → State → Prop := va_Qi (fun (r_ : Int32) (u : Int32 × Int32 × Int32) => r_ = u.1 ∧ u = f_J3_hashCode I yn bf ∧ (u.2.2 = 0 ∨ u.2.2 = 1)) (bx D (fun u => [(a, eSG rs (upd (upd I 2 u.2.1) 3 u.2.2)), ((rs 0), aB k yn bf)]) A) A
abbrev rm_J3_hashCode : Room := { frames := 4, cells := 0, slots := 0, locals := 160 }
theorem xo_J3_hashCode : xok yJ3_hashCode 0 := by unfold xok; decide +kernel
set_option maxHeartbeats 8000000 in
theorem m_J3_hashCode (l : Launch) (D : va_G) (k : KK) (sz : Nat) (a : Nat) (rs : Nat → Nat) (I : Nat → Int32) (yn : Nat) (bf : Nat → Int32) (hz : cz k) (hyb : yn < 2 ^ 31) (hy1 : 1 ≤ yn) (hI1 : I 1 = 0) (hI3 : I 3 = 0 ∨ I 3 = 1) : Met l yJ3_hashCode (ws_ yJ3_hashCode cJ3_hashCode 2 (some .int)) rm_J3_hashCode (pcx D k [.ref a] sz [(a, eSG rs I), ((rs 0), aB k yn bf)] (fun H => oldY k (va_A [(a, eSG rs I), ((rs 0), aB k yn bf)] sz) H)) (q_J3_hashCode D k a rs I yn bf (va_A [(a, eSG rs I), ((rs 0), aB k yn bf)] sz)) 0 0 (va_A [(a, eSG rs I), ((rs 0), aB k yn bf)] sz) := by
  refine Met.start (Qc := q_J3_hashCode D k a rs I yn bf) (by decide) (Nat.le_of_ble_eq_true rfl) ?_
  intro p e s m below meth c A hx hb hr hlocks hml hown hin hts hg hP hD hA hAn hS hY hsz ls hl
  have hown : s.vm.findClass RJ3 = some m.cls := hown
  have hl : lv_has ls 2 [(0, .ref a)] := hl
  have hO := oldY.mono hY hAn
  refine lv_aload_n hx hb dJ3_hashCode_0 rfl (lv_at hl 0 rfl) ?_
  refine va_get (D := D) (ci := 12) (v := .int (I 2)) (C := RJ3) (T := TJ3) (N := 4) hx hb hts in_J3 hown hg.1 hP 0 rfl rfl 2 (Nat.le_of_ble_eq_true rfl) (hts _ q646) (fun _ h9 => h9) rfl dJ3_hashCode_1 ?_
  refine lv_topi (fun x1 ex1 => ?_)
  refine lv_istore_n (lv' := [(1, .int x1), (0, .ref a)]) hx hb dJ3_hashCode_4 rfl hl (Nat.le_of_ble_eq_true rfl) rfl (fun ls hl => ?_)
  refine lv_iload_n hx hb dJ3_hashCode_5 rfl (lv_at hl 0 rfl) ?_
  refine lv_if_ne (tgt := 58) hx hb dJ3_hashCode_6 (by decide) (fun c2 => ?_) (fun c2 => ?_)
  · refine lv_iload_n hx hb dJ3_hashCode_58 rfl (lv_at hl 0 rfl) ?_
    exact xret_i hx hb hr hlocks (Nat.le_of_ble_eq_true rfl) (Nat.le_of_ble_eq_true rfl) hS.2.2 dJ3_hashCode_59 (fun t ht => ⟨⟨x1, (x1, (I 2), (I 3)), rfl, ⟨rfl, (by subst ex1; exact Eq.symm (Eq.trans (if_neg c2) (rfl))), hI3⟩, by rw [ht]; exact hP, hD⟩, hS.F ht⟩)
  · refine lv_aload_n hx hb dJ3_hashCode_9 rfl (lv_at hl 1 rfl) ?_
    refine va_get (D := D) (ci := 12) (v := .int (I 3)) (C := RJ3) (T := TJ3) (N := 4) hx hb hts in_J3 hown hg.1 hP 0 rfl rfl 3 (Nat.le_of_ble_eq_true rfl) (hts _ q647) (fun _ h9 => h9) rfl dJ3_hashCode_10 ?_
    refine lv_if_ne (tgt := 58) hx hb dJ3_hashCode_13 (by decide) (fun c3 => ?_) (fun c3 => ?_)
    · refine lv_iload_n hx hb dJ3_hashCode_58 rfl (lv_at hl 0 rfl) ?_
      exact xret_i hx hb hr hlocks (Nat.le_of_ble_eq_true rfl) (Nat.le_of_ble_eq_true rfl) hS.2.2 dJ3_hashCode_59 (fun t ht => ⟨⟨x1, (x1, (I 2), (I 3)), rfl, ⟨rfl, (by subst ex1; exact Eq.symm (Eq.trans (if_pos c2) (Eq.trans (if_neg c3) (rfl)))), hI3⟩, by rw [ht]; exact hP, hD⟩, hS.F ht⟩)
    · refine lv_aload_n hx hb dJ3_hashCode_16 rfl (lv_at hl 1 rfl) ?_
      refine xc_i (wc := []) (wr := [(a, eSG rs I), ((rs 0), aB k yn bf)]) hP hD hS hA [] [0, 1] rfl rfl rfl (by decide) (xrV ⟨hx, hb, hml, hown, hts⟩ hg (m_J3_isLatin1 l D k _ a (rs 0) yn bf hz) hP hD [] rfl rfl ⟨oldY.call hO hS (va_free (wc := []) hD hS hA [] rfl), (sY.own hg hP hD [] rfl 0 rfl 1 rfl (by decide) (by decide) hI1 (by omega))⟩ (ci := 12) (q0 := 0) rfl rfl rfl q677 q678 q679 q95 q680 xo_J3_isLatin1 ⟨rfl, rfl⟩ ⟨Nat.le_of_ble_eq_true rfl, Nat.le_of_ble_eq_true rfl⟩ hl.1 (Nat.le_of_ble_eq_true rfl) dJ3_hashCode_17 ⟨Nat.le_of_ble_eq_true rfl, Nat.le_of_ble_eq_true rfl⟩ rfl) (fun u4 r_ H locs hw hP hD hS hk => ?_)
      obtain ⟨rfl, eu4, bu4⟩ := hw
      replace hP : va_P D vwCl [(a, eSG rs I), ((rs 0), aB k yn bf)] H := hP.sub [0, 1] rfl
      replace hD : va_D A [(a, eSG rs I), ((rs 0), aB k yn bf)] := hD.sub [0, 1] (by decide) rfl
      refine lv_if_eq (tgt := 33) hx hb dJ3_hashCode_20 (by decide) (fun c => absurd c (by rw [eu4]; decide)) (fun _ => ?_)
      refine lv_aload_n hx hb dJ3_hashCode_23 rfl (lv_at hl 1 rfl) ?_
      refine va_get (D := D) (ci := 12) (v := .ref (rs 0)) (C := RJ3) (T := TJ3) (N := 4) hx hb hts in_J3 hown hg.1 hP 0 rfl rfl 0 (Nat.le_of_ble_eq_true rfl) (hts _ q644) (fun _ h9 => h9) rfl dJ3_hashCode_24 ?_
      refine xc_i (wc := [((rs 0), aB k yn bf)]) (wr := [(a, eSG rs I)]) hP hD hS hA [1] [0] rfl rfl rfl (by decide) (xrS ⟨hx, hb, hml, hown, hts⟩ hg (m_J6_hashCode l D k _ (rs 0) bf yn hyb hy1) hP hD [1] rfl rfl trivial q681 q682 q98 q683 xo_J6_hashCode ⟨rfl, rfl⟩ ⟨Nat.le_of_ble_eq_true rfl, Nat.le_of_ble_eq_true rfl⟩ hl.1 (Nat.le_of_ble_eq_true rfl) dJ3_hashCode_27 ⟨Nat.le_of_ble_eq_true rfl, Nat.le_of_ble_eq_true rfl⟩ rfl) (fun u5 r_ H locs hw hP hD hS hk => ?_)
      obtain ⟨rfl, eu5⟩ := hw
      replace hP : va_P D vwCl [(a, eSG rs I), ((rs 0), aB k yn bf)] H := hP.sub [0, 1] rfl
      replace hD : va_D A [(a, eSG rs I), ((rs 0), aB k yn bf)] := hD.sub [0, 1] (by decide) rfl
      refine lv_goto (tgt := 40) hx hb dJ3_hashCode_30 (by decide) ?_
      refine lv_istore_n (lv' := [(1, .int u5), (0, .ref a)]) hx hb dJ3_hashCode_40 rfl hl (Nat.le_of_ble_eq_true rfl) rfl (fun ls hl => ?_)
      refine lv_iload_n hx hb dJ3_hashCode_41 rfl (lv_at hl 0 rfl) ?_
      refine lv_if_ne (tgt := 53) hx hb dJ3_hashCode_42 (by decide) (fun c6 => ?_) (fun c6 => ?_)
      · refine lv_aload_n hx hb dJ3_hashCode_53 rfl (lv_at hl 1 rfl) ?_
        refine lv_iload_n hx hb dJ3_hashCode_54 rfl (lv_at hl 0 rfl) ?_
        refine va_put (D := D) (ci := 12) (v := .int u5) (C := RJ3) (T := TJ3) (N := 4) hx hb hts in_J3 tyJ3 tyJ3_ok nmJ3 hown hg.1 hP hD hS 0 rfl rfl 2 (Nat.le_of_ble_eq_true rfl) (hts _ q646) (fun _ h9 => h9) rfl ftJ3_2 rfl rfl (Nat.le_of_ble_eq_true rfl) dJ3_hashCode_55 (fun H locs hP hD hS => ?_)
        replace hP : va_P D vwCl [(a, eSG rs (upd I 2 u5)), ((rs 0), aB k yn bf)] H := hP
        replace hD : va_D A [(a, eSG rs (upd I 2 u5)), ((rs 0), aB k yn bf)] := hD
        refine lv_iload_n hx hb dJ3_hashCode_58 rfl (lv_at hl 0 rfl) ?_
        exact xret_i hx hb hr hlocks (Nat.le_of_ble_eq_true rfl) (Nat.le_of_ble_eq_true rfl) hS.2.2 dJ3_hashCode_59 (fun t ht => ⟨⟨u5, (u5, u5, (I 3)), rfl, ⟨rfl, (by subst eu5; subst eu4; subst ex1; exact Eq.symm (Eq.trans (if_pos c2) (Eq.trans (if_pos c3) (Eq.trans (if_neg c6) (rfl))))), hI3⟩, by rw [ht]; exact hP, hD⟩, hS.F ht⟩)
      · refine lv_aload_n hx hb dJ3_hashCode_45 rfl (lv_at hl 1 rfl) ?_
        refine lv_iconst (v := 1) hx hb dJ3_hashCode_46 ci_1 ?_
        refine va_put (D := D) (ci := 12) (v := .int 1) (C := RJ3) (T := TJ3) (N := 4) hx hb hts in_J3 tyJ3 tyJ3_ok nmJ3 hown hg.1 hP hD hS 0 rfl rfl 3 (Nat.le_of_ble_eq_true rfl) (hts _ q647) (fun _ h9 => h9) rfl ftJ3_3 (x01n (Or.inr rfl)) (x01f (Or.inr rfl)) (Nat.le_of_ble_eq_true rfl) dJ3_hashCode_47 (fun H locs hP hD hS => ?_)
        replace hP : va_P D vwCl [(a, eSG rs (upd I 3 1)), ((rs 0), aB k yn bf)] H := hP
        replace hD : va_D A [(a, eSG rs (upd I 3 1)), ((rs 0), aB k yn bf)] := hD
        refine lv_goto (tgt := 58) hx hb dJ3_hashCode_50 (by decide) ?_
        refine lv_iload_n hx hb dJ3_hashCode_58 rfl (lv_at hl 0 rfl) ?_
        exact xret_i hx hb hr hlocks (Nat.le_of_ble_eq_true rfl) (Nat.le_of_ble_eq_true rfl) hS.2.2 dJ3_hashCode_59 (fun t ht => ⟨⟨u5, (u5, (I 2), 1), rfl, ⟨rfl, (by subst eu5; subst eu4; subst ex1; exact Eq.symm (Eq.trans (if_pos c2) (Eq.trans (if_pos c3) (Eq.trans (if_pos c6) (rfl))))), (Or.inr rfl)⟩, by rw [ht]; exact hP, hD⟩, hS.F ht⟩)

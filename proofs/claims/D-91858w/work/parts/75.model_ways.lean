set_option maxRecDepth 100000
def f_X8_splitsFrom_j63 (x : Int32) (X661 : (Int32)) : (Int32) :=
  if X661 < x then
    0
  else
    1
def f_X8_splitsFrom_j64 (rw : Nat → Int32) (tl : Nat → Int32) (rn : Nat → Nat) (i2 : Nat) (X661 : (Int32)) (i661 : Nat) : (Int32) :=
  if (((nI i2) >>> ((nI i661) &&& 31)) &&& 1) = 1 then
    if (rw 0) ≤ nI i661 then
      let x717 := (X661 + (tl ((8 + i661) - (rn 0))))
      x717
    else
      let x718 := (X661 + (tl i661))
      x718
  else
    X661
def f_X8_splitsFrom_l50 (rw : Nat → Int32) (tl : Nat → Int32) (rn : Nat → Nat) (i2 : Nat) (i661 : Nat) (X661 : (Int32)) : (Int32) :=
  let v714 := f_X8_splitsFrom_j64 rw tl rn i2 X661 i661
  v714
def f_X8_splitsFrom_j59 (rw : Nat → Int32) (tl : Nat → Int32) (rn : Nat → Nat) (x : Int32) (X2 : (Int32)) (i2 : Nat) (u540 : Int32) : (Int32) :=
  if u540 = (rw 1) then
    let X661 := itN (f_X8_splitsFrom_l50 rw tl rn i2) ((rn 0) + (rn 1)) 0
    let v703 := f_X8_splitsFrom_j63 x X661
    let x704 := (X2 + v703)
    x704
  else
    X2
def f_X8_splitsFrom_l19 (rw : Nat → Int32) (tl : Nat → Int32) (rn : Nat → Nat) (x : Int32) (i2 : Nat) (X2 : (Int32)) : (Int32) :=
  let u540 := f_X8_bits (nI i2) i2
  let v659 := f_X8_splitsFrom_j59 rw tl rn x X2 i2 u540
  v659
def f_X8_splitsFrom (rw : Nat → Int32) (tl : Nat → Int32) (rn : Nat → Nat) (x : Int32) (pj : Nat) : Int32 :=
  let x1 := ((rw 0) + (rw 1))
  let X2 := itN (f_X8_splitsFrom_l19 rw tl rn x) pj 0
  X2
abbrev q_X8_splitsFrom (D : va_G) (k : KK) (o : Nat) (r : Nat → Nat) (mv : Value) (fr : Value) (I : Nat → Int32) (L : Nat → Int64) (rw : Nat → Int32) (tl : Nat → Int32) (rn : Nat → Nat) (x : Int32) (pj : Nat) (A : Nat → Prop) : Array Value → State → Outcome → State → Prop := va_Qi (fun (r_ : Int32) (u : Int32) => r_ = u ∧ u = f_X8_splitsFrom rw tl rn x pj) (bx D (fun u => [(o, eMM r mv fr I L), ((r 33), aI k 2 rw), ((r 34), aI k 16 tl)]) A) A
abbrev rm_X8_splitsFrom : Room := { frames := 2, cells := 0, slots := 0, locals := 80 }
theorem xo_X8_splitsFrom : xok yX8_splitsFrom 1 := by unfold xok; decide +kernel
set_option maxHeartbeats 8000000 in
theorem m_X8_splitsFrom (l : Launch) (D : va_G) (k : KK) (sz : Nat) (o : Nat) (r : Nat → Nat) (mv : Value) (fr : Value) (I : Nat → Int32) (L : Nat → Int64) (rw : Nat → Int32) (tl : Nat → Int32) (rn : Nat → Nat) (x : Int32) (pj : Nat) (hrn : ∀ j, j < 2 → rw j = nI (rn j) ∧ rn j ≤ 8) (hpj : pj = 2 ^ (rn 0 + rn 1)) (hpb : pj ≤ 65536) : Met l yX8_splitsFrom (ws_ yX8_splitsFrom cX8_splitsFrom 7 (some .int)) rm_X8_splitsFrom (pcx D k [.ref o, .int x] sz [(o, eMM r mv fr I L), ((r 33), aI k 2 rw), ((r 34), aI k 16 tl)] (fun _ => True)) (q_X8_splitsFrom D k o r mv fr I L rw tl rn x pj (va_A [(o, eMM r mv fr I L), ((r 33), aI k 2 rw), ((r 34), aI k 16 tl)] sz)) 0 0 (va_A [(o, eMM r mv fr I L), ((r 33), aI k 2 rw), ((r 34), aI k 16 tl)] sz) := by
  refine Met.start (Qc := q_X8_splitsFrom D k o r mv fr I L rw tl rn x pj) (by decide) (Nat.le_of_ble_eq_true rfl) ?_
  intro p e s m below meth c A hx hb hr hlocks hml hown hin hts hg hP hD hA hAn hS hY hsz ls hl
  have hown : s.vm.findClass RX8 = some m.cls := hown
  have hl : lv_has ls 7 [(0, .ref o), (1, .int x)] := hl
  have hr0 := (hrn 0 (by omega)).2
  have hr1 := (hrn 1 (by omega)).2
  refine lv_aload_n hx hb dX8_splitsFrom_0 rfl (lv_at hl 0 rfl) ?_
  refine va_get (D := D) (ci := 10) (v := .ref (r 33)) (C := RX8) (T := TX8) (N := 37) hx hb hts in_X8 hown hg.1 hP 0 rfl rfl 33 (Nat.le_of_ble_eq_true rfl) (hts _ q1174) (fun _ h9 => h9) rfl dX8_splitsFrom_1 ?_
  refine lv_iconst (v := 0) hx hb dX8_splitsFrom_4 ci_0 ?_
  refine xa_iald hx hb hg hP 1 rfl xl_0 (by first | omega | exact Nat.lt_of_lt_of_le (Nat.mod_lt _ (by omega)) (by omega)) (by omega) dX8_splitsFrom_5 ?_
  refine lv_aload_n hx hb dX8_splitsFrom_6 rfl (lv_at hl 0 rfl) ?_
  refine va_get (D := D) (ci := 10) (v := .ref (r 33)) (C := RX8) (T := TX8) (N := 37) hx hb hts in_X8 hown hg.1 hP 0 rfl rfl 33 (Nat.le_of_ble_eq_true rfl) (hts _ q1174) (fun _ h9 => h9) rfl dX8_splitsFrom_7 ?_
  refine lv_iconst (v := 1) hx hb dX8_splitsFrom_10 ci_1 ?_
  refine xa_iald hx hb hg hP 1 rfl xl_1 (by first | omega | exact Nat.lt_of_lt_of_le (Nat.mod_lt _ (by omega)) (by omega)) (by omega) dX8_splitsFrom_11 ?_
  refine lv_iadd hx hb dX8_splitsFrom_12 ?_
  refine lv_topi (fun x1 ex1 => ?_)
  refine lv_istore_n (lv' := [(2, .int x1), (0, .ref o), (1, .int x)]) hx hb dX8_splitsFrom_13 rfl hl (Nat.le_of_ble_eq_true rfl) rfl (fun ls hl => ?_)
  refine lv_iconst (v := 0) hx hb dX8_splitsFrom_14 ci_0 ?_
  refine lv_istore_n (lv' := [(3, .int 0), (2, .int x1), (0, .ref o), (1, .int x)]) hx hb dX8_splitsFrom_15 rfl hl (Nat.le_of_ble_eq_true rfl) rfl (fun ls hl => ?_)
  refine lv_iconst (v := 0) hx hb dX8_splitsFrom_16 ci_0 ?_
  refine lv_istore (lv' := [(4, .int 0), (3, .int 0), (2, .int x1), (0, .ref o), (1, .int x)]) hx hb dX8_splitsFrom_17 hl (Nat.le_of_ble_eq_true rfl) rfl (fun ls hl => ?_)
  have loop2 : ∀ (n2 i2 : Nat) (X2 : (Int32)) (H : Heap) (locs : List Loc) (ls : Array Slot), i2 + n2 = pj → X2 = itN (f_X8_splitsFrom_l19 rw tl rn x) i2 0 → va_P D vwCl [(o, eMM r mv fr I L), ((r 33), aI k 2 rw), ((r 34), aI k 16 tl)] H → va_D A [(o, eMM r mv fr I L), ((r 33), aI k 2 rw), ((r 34), aI k 16 tl)] → va_S A s.heap H locs → lv_has ls 7 [(4, .int (nI i2)), (3, .int X2), (2, .int x1), (0, .ref o), (1, .int x)] → W p l e rm_X8_splitsFrom s m ([.ref o, .int x] : List Value).toArray below meth c H locs 0 0 (MQ below (q_X8_splitsFrom D k o r mv fr I L rw tl rn x pj A) ([.ref o, .int x] : List Value).toArray s 0 0 A) (F0 m 19 ls []) := by
    intro n2
    induction n2 with
    | zero =>
      intro i2 X2 H locs ls hn2 eX2 hP hD hS hl
      have hi2 : i2 = pj := by omega
      rw [hi2] at eX2
      refine lv_iload hx hb dX8_splitsFrom_19 (lv_at hl 0 rfl) ?_
      refine lv_iconst (v := 1) hx hb dX8_splitsFrom_21 ci_1 ?_
      refine lv_iload_n hx hb dX8_splitsFrom_22 rfl (lv_at hl 2 rfl) ?_
      refine lv_ishl hx hb dX8_splitsFrom_23 ?_
      refine lv_icmp_ge (tgt := 131) hx hb dX8_splitsFrom_24 (by decide) (fun _ => ?_) (fun c => absurd (xle_t ((shl2 (ex1.trans (xnadd (hrn 0 (by omega)).1 (hrn 1 (by omega)).1)) (by omega)).trans (congrArg nI hpj.symm)) rfl (by omega) (by omega)) c)
      refine lv_iload_n hx hb dX8_splitsFrom_131 rfl (lv_at hl 1 rfl) ?_
      exact xret_i hx hb hr hlocks (Nat.le_of_ble_eq_true rfl) (Nat.le_of_ble_eq_true rfl) hS.2.2 dX8_splitsFrom_132 (fun t ht => ⟨⟨X2, X2, rfl, ⟨rfl, (by subst eX2; subst ex1; exact rfl)⟩, by rw [ht]; exact hP, hD⟩, hS.F ht⟩)
    | succ n2 ih2 =>
      intro i2 X2 H locs ls hn2 eX2 hP hD hS hl
      have hi2 : i2 < pj := by omega
      refine lv_iload hx hb dX8_splitsFrom_19 (lv_at hl 0 rfl) ?_
      refine lv_iconst (v := 1) hx hb dX8_splitsFrom_21 ci_1 ?_
      refine lv_iload_n hx hb dX8_splitsFrom_22 rfl (lv_at hl 2 rfl) ?_
      refine lv_ishl hx hb dX8_splitsFrom_23 ?_
      refine lv_icmp_ge (tgt := 131) hx hb dX8_splitsFrom_24 (by decide) (fun c => absurd c (xle_f ((shl2 (ex1.trans (xnadd (hrn 0 (by omega)).1 (hrn 1 (by omega)).1)) (by omega)).trans (congrArg nI hpj.symm)) rfl (by omega) (by omega))) (fun _ => ?_)
      refine lv_iload hx hb dX8_splitsFrom_27 (lv_at hl 0 rfl) ?_
      refine xc_i (wc := []) (wr := [(o, eMM r mv fr I L), ((r 33), aI k 2 rw), ((r 34), aI k 16 tl)]) hP hD hS hA [] [0, 1, 2] rfl rfl rfl (by decide) (xrS ⟨hx, hb, hml, hown, hts⟩ hg (m_X8_bits l D k _ (nI i2) i2 rfl (by omega)) hP hD [] rfl rfl trivial q1660 q1661 q93 q1662 xo_X8_bits ⟨rfl, rfl⟩ ⟨Nat.le_of_ble_eq_true rfl, Nat.le_of_ble_eq_true rfl⟩ hl.1 (Nat.le_of_ble_eq_true rfl) dX8_splitsFrom_29 ⟨Nat.le_of_ble_eq_true rfl, Nat.le_of_ble_eq_true rfl⟩ rfl) (fun u540 r_ H locs hw hP hD hS hk => ?_)
      obtain ⟨rfl, eu540⟩ := hw
      replace hP : va_P D vwCl [(o, eMM r mv fr I L), ((r 33), aI k 2 rw), ((r 34), aI k 16 tl)] H := hP.sub [0, 1, 2] rfl
      replace hD : va_D A [(o, eMM r mv fr I L), ((r 33), aI k 2 rw), ((r 34), aI k 16 tl)] := hD.sub [0, 1, 2] (by decide) rfl
      refine lv_aload_n hx hb dX8_splitsFrom_32 rfl (lv_at hl 3 rfl) ?_
      refine va_get (D := D) (ci := 10) (v := .ref (r 33)) (C := RX8) (T := TX8) (N := 37) hx hb hts in_X8 hown hg.1 hP 0 rfl rfl 33 (Nat.le_of_ble_eq_true rfl) (hts _ q1174) (fun _ h9 => h9) rfl dX8_splitsFrom_33 ?_
      refine lv_iconst (v := 1) hx hb dX8_splitsFrom_36 ci_1 ?_
      refine xa_iald hx hb hg hP 1 rfl xl_1 (by first | omega | exact Nat.lt_of_lt_of_le (Nat.mod_lt _ (by omega)) (by omega)) (by omega) dX8_splitsFrom_37 ?_
      have Jn59 : ∀ (v659 : (Int32)) (H : Heap) (locs : List Loc) (ls : Array Slot), v659 = f_X8_splitsFrom_j59 rw tl rn x X2 i2 u540 → va_P D vwCl [(o, eMM r mv fr I L), ((r 33), aI k 2 rw), ((r 34), aI k 16 tl)] H → va_D A [(o, eMM r mv fr I L), ((r 33), aI k 2 rw), ((r 34), aI k 16 tl)] → va_S A s.heap H locs → lv_has ls 7 [(3, .int v659), (4, .int (nI i2)), (2, .int x1), (0, .ref o), (1, .int x)] → W p l e rm_X8_splitsFrom s m ([.ref o, .int x] : List Value).toArray below meth c H locs 0 0 (MQ below (q_X8_splitsFrom D k o r mv fr I L rw tl rn x pj A) ([.ref o, .int x] : List Value).toArray s 0 0 A) (F0 m 125 ls []) := by
        intro v659 H locs ls ev659 hP hD hS hl
        refine lv_iinc (v := (nI (i2 + 1))) (lv' := [(4, .int (nI (i2 + 1))), (3, .int v659), (2, .int x1), (0, .ref o), (1, .int x)]) hx hb dX8_splitsFrom_125 hl (k := 1) rfl (xinc1 _) (Nat.le_of_ble_eq_true rfl) rfl (fun ls hl => ?_)
        refine lv_goto (tgt := 19) hx hb dX8_splitsFrom_128 (by decide) ?_
        exact ih2 (i2 + 1) v659 _ _ _ (by omega) (Eq.trans (by subst ev659; subst eu540; exact rfl) (congrArg (f_X8_splitsFrom_l19 rw tl rn x i2) eX2)) hP hD hS (lv_sub hl [0, 1, 2, 3, 4] rfl)
      refine lv_icmp_eq (tgt := 44) hx hb dX8_splitsFrom_38 (by decide) (fun c660 => ?_) (fun c660 => ?_)
      · refine lv_iconst (v := 0) hx hb dX8_splitsFrom_44 ci_0 ?_
        refine lv_istore (lv' := [(5, .int 0), (4, .int (nI i2)), (3, .int X2), (2, .int x1), (0, .ref o), (1, .int x)]) hx hb dX8_splitsFrom_45 hl (Nat.le_of_ble_eq_true rfl) rfl (fun ls hl => ?_)
        refine lv_iconst (v := 0) hx hb dX8_splitsFrom_47 ci_0 ?_
        refine lv_istore (lv' := [(6, .int 0), (5, .int 0), (4, .int (nI i2)), (3, .int X2), (2, .int x1), (0, .ref o), (1, .int x)]) hx hb dX8_splitsFrom_48 hl (Nat.le_of_ble_eq_true rfl) rfl (fun ls hl => ?_)
        have loop661 : ∀ (n661 i661 : Nat) (X661 : (Int32)) (H : Heap) (locs : List Loc) (ls : Array Slot), i661 + n661 = (rn 0) + (rn 1) → X661 = itN (f_X8_splitsFrom_l50 rw tl rn i2) i661 0 → va_P D vwCl [(o, eMM r mv fr I L), ((r 33), aI k 2 rw), ((r 34), aI k 16 tl)] H → va_D A [(o, eMM r mv fr I L), ((r 33), aI k 2 rw), ((r 34), aI k 16 tl)] → va_S A s.heap H locs → lv_has ls 7 [(6, .int (nI i661)), (5, .int X661), (4, .int (nI i2)), (3, .int X2), (2, .int x1), (0, .ref o), (1, .int x)] → W p l e rm_X8_splitsFrom s m ([.ref o, .int x] : List Value).toArray below meth c H locs 0 0 (MQ below (q_X8_splitsFrom D k o r mv fr I L rw tl rn x pj A) ([.ref o, .int x] : List Value).toArray s 0 0 A) (F0 m 50 ls []) := by
          intro n661
          induction n661 with
          | zero =>
            intro i661 X661 H locs ls hn661 eX661 hP hD hS hl
            have hi661 : i661 = (rn 0) + (rn 1) := by omega
            rw [hi661] at eX661
            refine lv_iload hx hb dX8_splitsFrom_50 (lv_at hl 0 rfl) ?_
            refine lv_iload_n hx hb dX8_splitsFrom_52 rfl (lv_at hl 4 rfl) ?_
            refine lv_icmp_ge (tgt := 111) hx hb dX8_splitsFrom_53 (by decide) (fun _ => ?_) (fun c => absurd (xle_t (ex1.trans (xnadd (hrn 0 (by omega)).1 (hrn 1 (by omega)).1)) rfl (by omega) (by omega)) c)
            refine lv_iload_n hx hb dX8_splitsFrom_111 rfl (lv_at hl 3 rfl) ?_
            refine lv_iload hx hb dX8_splitsFrom_112 (lv_at hl 1 rfl) ?_
            refine lv_iload_n hx hb dX8_splitsFrom_114 rfl (lv_at hl 6 rfl) ?_
            have Jn63 : ∀ (v703 : (Int32)) (H : Heap) (locs : List Loc) (ls : Array Slot), v703 = f_X8_splitsFrom_j63 x X661 → (v703 = 0 ∨ v703 = 1) → va_P D vwCl [(o, eMM r mv fr I L), ((r 33), aI k 2 rw), ((r 34), aI k 16 tl)] H → va_D A [(o, eMM r mv fr I L), ((r 33), aI k 2 rw), ((r 34), aI k 16 tl)] → va_S A s.heap H locs → lv_has ls 7 [(6, .int (nI i661)), (5, .int X661), (4, .int (nI i2)), (3, .int X2), (2, .int x1), (0, .ref o), (1, .int x)] → W p l e rm_X8_splitsFrom s m ([.ref o, .int x] : List Value).toArray below meth c H locs 0 0 (MQ below (q_X8_splitsFrom D k o r mv fr I L rw tl rn x pj A) ([.ref o, .int x] : List Value).toArray s 0 0 A) (F0 m 123 ls [.int v703, .int X2]) := by
              intro v703 H locs ls ev703 bv703_0 hP hD hS hl
              refine lv_iadd hx hb dX8_splitsFrom_123 ?_
              refine lv_topi (fun x704 ex704 => ?_)
              refine lv_istore_n (lv' := [(3, .int x704), (6, .int (nI i661)), (5, .int X661), (4, .int (nI i2)), (2, .int x1), (0, .ref o), (1, .int x)]) hx hb dX8_splitsFrom_124 rfl hl (Nat.le_of_ble_eq_true rfl) rfl (fun ls hl => ?_)
              exact Jn59 x704 _ _ _ (by subst ex704; subst ev703; subst eX661; exact Eq.symm (Eq.trans (if_pos c660) (rfl))) hP hD hS (lv_sub hl [0, 3, 4, 5, 6] rfl)
            refine lv_icmp_lt (tgt := 122) hx hb dX8_splitsFrom_115 (by decide) (fun c705 => ?_) (fun c705 => ?_)
            · refine lv_iconst (v := 0) hx hb dX8_splitsFrom_122 ci_0 ?_
              exact Jn63 0 _ _ _ (by exact Eq.symm (Eq.trans (if_pos c705) (rfl))) (Or.inl rfl) hP hD hS (lv_sub hl [0, 1, 2, 3, 4, 5, 6] rfl)
            · refine lv_iconst (v := 1) hx hb dX8_splitsFrom_118 ci_1 ?_
              refine lv_goto (tgt := 123) hx hb dX8_splitsFrom_119 (by decide) ?_
              exact Jn63 1 _ _ _ (by exact Eq.symm (Eq.trans (if_neg c705) (rfl))) (Or.inr rfl) hP hD hS (lv_sub hl [0, 1, 2, 3, 4, 5, 6] rfl)
          | succ n661 ih661 =>
            intro i661 X661 H locs ls hn661 eX661 hP hD hS hl
            have hi661 : i661 < (rn 0) + (rn 1) := by omega
            refine lv_iload hx hb dX8_splitsFrom_50 (lv_at hl 0 rfl) ?_
            refine lv_iload_n hx hb dX8_splitsFrom_52 rfl (lv_at hl 4 rfl) ?_
            refine lv_icmp_ge (tgt := 111) hx hb dX8_splitsFrom_53 (by decide) (fun c => absurd c (xle_f (ex1.trans (xnadd (hrn 0 (by omega)).1 (hrn 1 (by omega)).1)) rfl (by omega) (by omega))) (fun _ => ?_)
            refine lv_iload hx hb dX8_splitsFrom_56 (lv_at hl 2 rfl) ?_
            refine lv_iload hx hb dX8_splitsFrom_58 (lv_at hl 0 rfl) ?_
            refine lv_ishr hx hb dX8_splitsFrom_60 ?_
            refine lv_iconst (v := 1) hx hb dX8_splitsFrom_61 ci_1 ?_
            refine lv_iand hx hb dX8_splitsFrom_62 ?_
            refine lv_iconst (v := 1) hx hb dX8_splitsFrom_63 ci_1 ?_
            have Jn64 : ∀ (v714 : (Int32)) (H : Heap) (locs : List Loc) (ls : Array Slot), v714 = f_X8_splitsFrom_j64 rw tl rn i2 X661 i661 → va_P D vwCl [(o, eMM r mv fr I L), ((r 33), aI k 2 rw), ((r 34), aI k 16 tl)] H → va_D A [(o, eMM r mv fr I L), ((r 33), aI k 2 rw), ((r 34), aI k 16 tl)] → va_S A s.heap H locs → lv_has ls 7 [(6, .int (nI i661)), (5, .int v714), (4, .int (nI i2)), (3, .int X2), (2, .int x1), (0, .ref o), (1, .int x)] → W p l e rm_X8_splitsFrom s m ([.ref o, .int x] : List Value).toArray below meth c H locs 0 0 (MQ below (q_X8_splitsFrom D k o r mv fr I L rw tl rn x pj A) ([.ref o, .int x] : List Value).toArray s 0 0 A) (F0 m 105 ls []) := by
              intro v714 H locs ls ev714 hP hD hS hl
              refine lv_iinc (v := (nI (i661 + 1))) (lv' := [(6, .int (nI (i661 + 1))), (5, .int v714), (4, .int (nI i2)), (3, .int X2), (2, .int x1), (0, .ref o), (1, .int x)]) hx hb dX8_splitsFrom_105 hl (k := 0) rfl (xinc1 _) (Nat.le_of_ble_eq_true rfl) rfl (fun ls hl => ?_)
              refine lv_goto (tgt := 50) hx hb dX8_splitsFrom_108 (by decide) ?_
              exact ih661 (i661 + 1) v714 _ _ _ (by omega) (Eq.trans (by subst ev714; exact rfl) (congrArg (f_X8_splitsFrom_l50 rw tl rn i2 i661) eX661)) hP hD hS (lv_sub hl [0, 1, 2, 3, 4, 5, 6] rfl)
            refine lv_icmp_ne (tgt := 105) hx hb dX8_splitsFrom_64 (by decide) (fun c715 => ?_) (fun c715 => ?_)
            · exact Jn64 X661 _ _ _ (by exact Eq.symm (Eq.trans (if_neg c715) (rfl))) hP hD hS (lv_sub hl [0, 1, 2, 3, 4, 5, 6] rfl)
            · refine lv_iload hx hb dX8_splitsFrom_67 (lv_at hl 1 rfl) ?_
              refine lv_aload_n hx hb dX8_splitsFrom_69 rfl (lv_at hl 5 rfl) ?_
              refine va_get (D := D) (ci := 10) (v := .ref (r 34)) (C := RX8) (T := TX8) (N := 37) hx hb hts in_X8 hown hg.1 hP 0 rfl rfl 34 (Nat.le_of_ble_eq_true rfl) (hts _ q1175) (fun _ h9 => h9) rfl dX8_splitsFrom_70 ?_
              refine lv_iload hx hb dX8_splitsFrom_73 (lv_at hl 0 rfl) ?_
              refine lv_aload_n hx hb dX8_splitsFrom_75 rfl (lv_at hl 5 rfl) ?_
              refine va_get (D := D) (ci := 10) (v := .ref (r 33)) (C := RX8) (T := TX8) (N := 37) hx hb hts in_X8 hown hg.1 hP 0 rfl rfl 33 (Nat.le_of_ble_eq_true rfl) (hts _ q1174) (fun _ h9 => h9) rfl dX8_splitsFrom_76 ?_
              refine lv_iconst (v := 0) hx hb dX8_splitsFrom_79 ci_0 ?_
              refine xa_iald hx hb hg hP 1 rfl xl_0 (by first | omega | exact Nat.lt_of_lt_of_le (Nat.mod_lt _ (by omega)) (by omega)) (by omega) dX8_splitsFrom_80 ?_
              refine lv_icmp_ge (tgt := 89) hx hb dX8_splitsFrom_81 (by decide) (fun c716 => ?_) (fun c716 => ?_)
              · have hge := sf_ge (hrn 0 (by omega)).1 (by omega) c716
                refine lv_bipush (v := 8) hx hb dX8_splitsFrom_89 cb_8 ?_
                refine lv_iload hx hb dX8_splitsFrom_91 (lv_at hl 0 rfl) ?_
                refine lv_iadd hx hb dX8_splitsFrom_93 ?_
                refine lv_aload_n hx hb dX8_splitsFrom_94 rfl (lv_at hl 5 rfl) ?_
                refine va_get (D := D) (ci := 10) (v := .ref (r 33)) (C := RX8) (T := TX8) (N := 37) hx hb hts in_X8 hown hg.1 hP 0 rfl rfl 33 (Nat.le_of_ble_eq_true rfl) (hts _ q1174) (fun _ h9 => h9) rfl dX8_splitsFrom_95 ?_
                refine lv_iconst (v := 0) hx hb dX8_splitsFrom_98 ci_0 ?_
                refine xa_iald hx hb hg hP 1 rfl xl_0 (by first | omega | exact Nat.lt_of_lt_of_le (Nat.mod_lt _ (by omega)) (by omega)) (by omega) dX8_splitsFrom_99 ?_
                refine lv_isub hx hb dX8_splitsFrom_100 ?_
                refine xa_iald hx hb hg hP 2 rfl (xnsub (xnadd xl_8 rfl) (hrn 0 (by omega)).1 (by omega)) (by first | omega | exact Nat.lt_of_lt_of_le (Nat.mod_lt _ (by omega)) (by omega)) (by omega) dX8_splitsFrom_101 ?_
                refine lv_iadd hx hb dX8_splitsFrom_102 ?_
                refine lv_topi (fun x717 ex717 => ?_)
                refine lv_istore (lv' := [(5, .int x717), (6, .int (nI i661)), (4, .int (nI i2)), (3, .int X2), (2, .int x1), (0, .ref o), (1, .int x)]) hx hb dX8_splitsFrom_103 hl (Nat.le_of_ble_eq_true rfl) rfl (fun ls hl => ?_)
                exact Jn64 x717 _ _ _ (by subst ex717; exact Eq.symm (Eq.trans (if_pos c715) (Eq.trans (if_pos c716) (rfl)))) hP hD hS (lv_sub hl [1, 0, 2, 3, 4, 5, 6] rfl)
              · have hlt := sf_lt (hrn 0 (by omega)).1 (by omega) c716
                refine lv_iload hx hb dX8_splitsFrom_84 (lv_at hl 0 rfl) ?_
                refine lv_goto (tgt := 101) hx hb dX8_splitsFrom_86 (by decide) ?_
                refine xa_iald hx hb hg hP 2 rfl rfl (by first | omega | exact Nat.lt_of_lt_of_le (Nat.mod_lt _ (by omega)) (by omega)) (by omega) dX8_splitsFrom_101 ?_
                refine lv_iadd hx hb dX8_splitsFrom_102 ?_
                refine lv_topi (fun x718 ex718 => ?_)
                refine lv_istore (lv' := [(5, .int x718), (6, .int (nI i661)), (4, .int (nI i2)), (3, .int X2), (2, .int x1), (0, .ref o), (1, .int x)]) hx hb dX8_splitsFrom_103 hl (Nat.le_of_ble_eq_true rfl) rfl (fun ls hl => ?_)
                exact Jn64 x718 _ _ _ (by subst ex718; exact Eq.symm (Eq.trans (if_pos c715) (Eq.trans (if_neg c716) (rfl)))) hP hD hS (lv_sub hl [1, 0, 2, 3, 4, 5, 6] rfl)
        exact loop661 ((rn 0) + (rn 1)) 0 0 _ _ _ (by omega) rfl hP hD hS (by have h := (lv_sub hl [0, 1, 2, 3, 4, 5, 6] rfl); exact h)
      · refine lv_goto (tgt := 125) hx hb dX8_splitsFrom_41 (by decide) ?_
        exact Jn59 X2 _ _ _ (by exact Eq.symm (Eq.trans (if_neg c660) (rfl))) hP hD hS (lv_sub hl [1, 0, 2, 3, 4] rfl)
  exact loop2 pj 0 0 _ _ _ (by omega) rfl hP hD hS (by have h := (lv_sub hl [0, 1, 2, 3, 4] rfl); exact h)

def f_X8_chance_l33 (tl : Nat → Int32) (i4 : Nat) (X4 : (Int32)) : (Int32) :=
  let x10 := (X4 + (tl (8 + i4)))
  x10
def f_X8_chance (rw : Nat → Int32) (tl : Nat → Int32) (rn : Nat → Nat) : Int32 × Int32 × Int32 × Int32 :=
  if (rw 0) = 0 then
    let u2 := f_X8_refused 5
    (u2.1, 0, u2.2.1, u2.2.2)
  else
    if (rw 1) = 0 then
      let u11 := f_X8_refused 5
      (u11.1, 0, u11.2.1, u11.2.2)
    else
      let X4 := itN (f_X8_chance_l33 tl) (rn 1) 0
      let u8 := f_X8_splitsFrom rw tl rn X4 (2 ^ (rn 0 + rn 1))
      let u9 := f_X8_done u8
      (u9.1, 0, u9.2.1, u9.2.2)
abbrev q_X8_chance (D : va_G) (k : KK) (o : Nat) (r : Nat → Nat) (mv : Value) (fr : Value) (I : Nat → Int32) (L : Nat → Int64) (rw : Nat → Int32) (tl : Nat → Int32) (rn : Nat → Nat) (A : Nat → Prop) : Array Value → State → Outcome → State → Prop := va_Qi (fun (r_ : Int32) (u : Int32 × Int32 × Int32 × Int32) => r_ = u.1 ∧ u = f_X8_chance rw tl rn) (bx D (fun u => [(o, eMM r mv fr (upd (upd (upd I 0 u.2.1) 1 u.2.2.1) 2 u.2.2.2) L), ((r 33), aI k 2 rw), ((r 34), aI k 16 tl)]) A) A
abbrev rm_X8_chance : Room := { frames := 3, cells := 0, slots := 0, locals := 120 }
theorem xo_X8_chance : xok yX8_chance 0 := by unfold xok; decide +kernel
set_option maxHeartbeats 8000000 in
theorem m_X8_chance (l : Launch) (D : va_G) (k : KK) (sz : Nat) (o : Nat) (r : Nat → Nat) (mv : Value) (fr : Value) (I : Nat → Int32) (L : Nat → Int64) (rw : Nat → Int32) (tl : Nat → Int32) (rn : Nat → Nat) (hrn : ∀ j, j < 2 → rw j = nI (rn j) ∧ rn j ≤ 8) : Met l yX8_chance (ws_ yX8_chance cX8_chance 3 (some .int)) rm_X8_chance (pcx D k [.ref o] sz [(o, eMM r mv fr I L), ((r 33), aI k 2 rw), ((r 34), aI k 16 tl)] (fun _ => True)) (q_X8_chance D k o r mv fr I L rw tl rn (va_A [(o, eMM r mv fr I L), ((r 33), aI k 2 rw), ((r 34), aI k 16 tl)] sz)) 0 0 (va_A [(o, eMM r mv fr I L), ((r 33), aI k 2 rw), ((r 34), aI k 16 tl)] sz) := by
  refine Met.start (Qc := q_X8_chance D k o r mv fr I L rw tl rn) (by decide) (Nat.le_of_ble_eq_true rfl) ?_
  intro p e s m below meth c A hx hb hr hlocks hml hown hin hts hg hP hD hA hAn hS hY hsz ls hl
  have hown : s.vm.findClass RX8 = some m.cls := hown
  have hl : lv_has ls 3 [(0, .ref o)] := hl
  have hr0 := (hrn 0 (by omega)).2
  have hr1 := (hrn 1 (by omega)).2
  refine lv_aload_n hx hb dX8_chance_0 rfl (lv_at hl 0 rfl) ?_
  refine lv_iconst (v := 0) hx hb dX8_chance_1 ci_0 ?_
  refine va_put (D := D) (ci := 10) (v := .int 0) (C := RX8) (T := TX8) (N := 37) hx hb hts in_X8 tyX8 tyX8_ok nmX8 hown hg.1 hP hD hS 0 rfl rfl 0 (Nat.le_of_ble_eq_true rfl) (hts _ q1141) (fun _ h9 => h9) rfl ftX8_0 rfl rfl (Nat.le_of_ble_eq_true rfl) dX8_chance_2 (fun H locs hP hD hS => ?_)
  replace hP : va_P D vwCl [(o, eMM r mv fr (upd I 0 0) L), ((r 33), aI k 2 rw), ((r 34), aI k 16 tl)] H := hP
  replace hD : va_D A [(o, eMM r mv fr (upd I 0 0) L), ((r 33), aI k 2 rw), ((r 34), aI k 16 tl)] := hD
  refine lv_aload_n hx hb dX8_chance_5 rfl (lv_at hl 0 rfl) ?_
  refine va_get (D := D) (ci := 10) (v := .ref (r 33)) (C := RX8) (T := TX8) (N := 37) hx hb hts in_X8 hown hg.1 hP 0 rfl rfl 33 (Nat.le_of_ble_eq_true rfl) (hts _ q1174) (fun _ h9 => h9) rfl dX8_chance_6 ?_
  refine lv_iconst (v := 0) hx hb dX8_chance_9 ci_0 ?_
  refine xa_iald hx hb hg hP 1 rfl xl_0 (by first | omega | exact Nat.lt_of_lt_of_le (Nat.mod_lt _ (by omega)) (by omega)) (by omega) dX8_chance_10 ?_
  refine lv_if_eq (tgt := 23) hx hb dX8_chance_11 (by decide) (fun c1 => ?_) (fun c1 => ?_)
  · refine lv_aload_n hx hb dX8_chance_23 rfl (lv_at hl 0 rfl) ?_
    refine lv_iconst (v := 5) hx hb dX8_chance_24 ci_5 ?_
    refine xc_i (wc := [(o, eMM r mv fr (upd I 0 0) L)]) (wr := [((r 33), aI k 2 rw), ((r 34), aI k 16 tl)]) hP hD hS hA [0] [1, 2] rfl rfl rfl (by decide) (xrV ⟨hx, hb, hml, hown, hts⟩ hg (m_X8_refused l D k _ o r mv fr (upd I 0 0) L 5) hP hD [0] rfl rfl trivial (ci := 10) (q0 := 0) rfl rfl rfl q1265 q1267 qs39 q93 q1268 xo_X8_refused ⟨rfl, rfl⟩ ⟨Nat.le_of_ble_eq_true rfl, Nat.le_of_ble_eq_true rfl⟩ hl.1 (Nat.le_of_ble_eq_true rfl) dX8_chance_25 ⟨Nat.le_of_ble_eq_true rfl, Nat.le_of_ble_eq_true rfl⟩ rfl) (fun r_ u2 H locs hw hP hD hS hk => ?_)
    obtain ⟨rfl, eu2⟩ := hw
    replace hP : va_P D vwCl [(o, eMM r mv fr (upd (upd (upd I 0 0) 1 u2.2.1) 2 u2.2.2) L), ((r 33), aI k 2 rw), ((r 34), aI k 16 tl)] H := hP.sub [2, 0, 1] rfl
    replace hD : va_D A [(o, eMM r mv fr (upd (upd (upd I 0 0) 1 u2.2.1) 2 u2.2.2) L), ((r 33), aI k 2 rw), ((r 34), aI k 16 tl)] := hD.sub [2, 0, 1] (by decide) rfl
    exact xret_i hx hb hr hlocks (Nat.le_of_ble_eq_true rfl) (Nat.le_of_ble_eq_true rfl) hS.2.2 dX8_chance_28 (fun t ht => ⟨⟨u2.1, (u2.1, 0, u2.2.1, u2.2.2), rfl, ⟨rfl, (by subst eu2; exact Eq.symm (Eq.trans (if_pos c1) (rfl)))⟩, by rw [ht]; exact hP, hD⟩, hS.F ht⟩)
  · refine lv_aload_n hx hb dX8_chance_14 rfl (lv_at hl 0 rfl) ?_
    refine va_get (D := D) (ci := 10) (v := .ref (r 33)) (C := RX8) (T := TX8) (N := 37) hx hb hts in_X8 hown hg.1 hP 0 rfl rfl 33 (Nat.le_of_ble_eq_true rfl) (hts _ q1174) (fun _ h9 => h9) rfl dX8_chance_15 ?_
    refine lv_iconst (v := 1) hx hb dX8_chance_18 ci_1 ?_
    refine xa_iald hx hb hg hP 1 rfl xl_1 (by first | omega | exact Nat.lt_of_lt_of_le (Nat.mod_lt _ (by omega)) (by omega)) (by omega) dX8_chance_19 ?_
    refine lv_if_ne (tgt := 29) hx hb dX8_chance_20 (by decide) (fun c3 => ?_) (fun c3 => ?_)
    · refine lv_iconst (v := 0) hx hb dX8_chance_29 ci_0 ?_
      refine lv_istore_n (lv' := [(1, .int 0), (0, .ref o)]) hx hb dX8_chance_30 rfl hl (Nat.le_of_ble_eq_true rfl) rfl (fun ls hl => ?_)
      refine lv_iconst (v := 0) hx hb dX8_chance_31 ci_0 ?_
      refine lv_istore_n (lv' := [(2, .int 0), (1, .int 0), (0, .ref o)]) hx hb dX8_chance_32 rfl hl (Nat.le_of_ble_eq_true rfl) rfl (fun ls hl => ?_)
      have loop4 : ∀ (n4 i4 : Nat) (X4 : (Int32)) (H : Heap) (locs : List Loc) (ls : Array Slot), i4 + n4 = (rn 1) → X4 = itN (f_X8_chance_l33 tl) i4 0 → va_P D vwCl [(o, eMM r mv fr (upd I 0 0) L), ((r 33), aI k 2 rw), ((r 34), aI k 16 tl)] H → va_D A [(o, eMM r mv fr (upd I 0 0) L), ((r 33), aI k 2 rw), ((r 34), aI k 16 tl)] → va_S A s.heap H locs → lv_has ls 3 [(2, .int (nI i4)), (1, .int X4), (0, .ref o)] → W p l e rm_X8_chance s m ([.ref o] : List Value).toArray below meth c H locs 0 0 (MQ below (q_X8_chance D k o r mv fr I L rw tl rn A) ([.ref o] : List Value).toArray s 0 0 A) (F0 m 33 ls []) := by
        intro n4
        induction n4 with
        | zero =>
          intro i4 X4 H locs ls hn4 eX4 hP hD hS hl
          have hi4 : i4 = (rn 1) := by omega
          rw [hi4] at eX4
          refine lv_iload_n hx hb dX8_chance_33 rfl (lv_at hl 0 rfl) ?_
          refine lv_aload_n hx hb dX8_chance_34 rfl (lv_at hl 2 rfl) ?_
          refine va_get (D := D) (ci := 10) (v := .ref (r 33)) (C := RX8) (T := TX8) (N := 37) hx hb hts in_X8 hown hg.1 hP 0 rfl rfl 33 (Nat.le_of_ble_eq_true rfl) (hts _ q1174) (fun _ h9 => h9) rfl dX8_chance_35 ?_
          refine lv_iconst (v := 1) hx hb dX8_chance_38 ci_1 ?_
          refine xa_iald hx hb hg hP 1 rfl xl_1 (by first | omega | exact Nat.lt_of_lt_of_le (Nat.mod_lt _ (by omega)) (by omega)) (by omega) dX8_chance_39 ?_
          refine lv_icmp_ge (tgt := 61) hx hb dX8_chance_40 (by decide) (fun _ => ?_) (fun c => absurd (xle_t (hrn 1 (by omega)).1 rfl (by omega) (by omega)) c)
          refine lv_aload_n hx hb dX8_chance_61 rfl (lv_at hl 2 rfl) ?_
          refine lv_aload_n hx hb dX8_chance_62 rfl (lv_at hl 2 rfl) ?_
          refine lv_iload_n hx hb dX8_chance_63 rfl (lv_at hl 1 rfl) ?_
          refine xc_i (wc := [(o, eMM r mv fr (upd I 0 0) L), ((r 33), aI k 2 rw), ((r 34), aI k 16 tl)]) (wr := []) hP hD hS hA [0, 1, 2] [] rfl rfl rfl (by decide) (xrV ⟨hx, hb, hml, hown, hts⟩ hg (m_X8_splitsFrom l D k _ o r mv fr (upd I 0 0) L rw tl rn X4 (2 ^ (rn 0 + rn 1)) hrn rfl (pow2_16 hr0 hr1)) hP hD [0, 1, 2] rfl rfl trivial (ci := 10) (q0 := 0) rfl rfl rfl q1656 q1658 qs80 q93 q1659 xo_X8_splitsFrom ⟨rfl, rfl⟩ ⟨Nat.le_of_ble_eq_true rfl, Nat.le_of_ble_eq_true rfl⟩ hl.1 (Nat.le_of_ble_eq_true rfl) dX8_chance_64 ⟨Nat.le_of_ble_eq_true rfl, Nat.le_of_ble_eq_true rfl⟩ rfl) (fun u8 r_ H locs hw hP hD hS hk => ?_)
          obtain ⟨rfl, eu8⟩ := hw
          replace hP : va_P D vwCl [(o, eMM r mv fr (upd I 0 0) L), ((r 33), aI k 2 rw), ((r 34), aI k 16 tl)] H := hP.sub [0, 1, 2] rfl
          replace hD : va_D A [(o, eMM r mv fr (upd I 0 0) L), ((r 33), aI k 2 rw), ((r 34), aI k 16 tl)] := hD.sub [0, 1, 2] (by decide) rfl
          refine xc_i (wc := [(o, eMM r mv fr (upd I 0 0) L)]) (wr := [((r 33), aI k 2 rw), ((r 34), aI k 16 tl)]) hP hD hS hA [0] [1, 2] rfl rfl rfl (by decide) (xrV ⟨hx, hb, hml, hown, hts⟩ hg (m_X8_done l D k _ o r mv fr (upd I 0 0) L u8) hP hD [0] rfl rfl trivial (ci := 10) (q0 := 0) rfl rfl rfl q1482 q1484 qs60 q93 q1485 xo_X8_done ⟨rfl, rfl⟩ ⟨Nat.le_of_ble_eq_true rfl, Nat.le_of_ble_eq_true rfl⟩ hl.1 (Nat.le_of_ble_eq_true rfl) dX8_chance_67 ⟨Nat.le_of_ble_eq_true rfl, Nat.le_of_ble_eq_true rfl⟩ rfl) (fun r_ u9 H locs hw hP hD hS hk => ?_)
          obtain ⟨rfl, eu9⟩ := hw
          replace hP : va_P D vwCl [(o, eMM r mv fr (upd (upd (upd I 0 0) 1 u9.2.1) 2 u9.2.2) L), ((r 33), aI k 2 rw), ((r 34), aI k 16 tl)] H := hP.sub [2, 0, 1] rfl
          replace hD : va_D A [(o, eMM r mv fr (upd (upd (upd I 0 0) 1 u9.2.1) 2 u9.2.2) L), ((r 33), aI k 2 rw), ((r 34), aI k 16 tl)] := hD.sub [2, 0, 1] (by decide) rfl
          exact xret_i hx hb hr hlocks (Nat.le_of_ble_eq_true rfl) (Nat.le_of_ble_eq_true rfl) hS.2.2 dX8_chance_70 (fun t ht => ⟨⟨u9.1, (u9.1, 0, u9.2.1, u9.2.2), rfl, ⟨rfl, (by subst eu9; subst eu8; subst eX4; exact Eq.symm (Eq.trans (if_neg c1) (Eq.trans (if_neg c3) (rfl))))⟩, by rw [ht]; exact hP, hD⟩, hS.F ht⟩)
        | succ n4 ih4 =>
          intro i4 X4 H locs ls hn4 eX4 hP hD hS hl
          have hi4 : i4 < (rn 1) := by omega
          refine lv_iload_n hx hb dX8_chance_33 rfl (lv_at hl 0 rfl) ?_
          refine lv_aload_n hx hb dX8_chance_34 rfl (lv_at hl 2 rfl) ?_
          refine va_get (D := D) (ci := 10) (v := .ref (r 33)) (C := RX8) (T := TX8) (N := 37) hx hb hts in_X8 hown hg.1 hP 0 rfl rfl 33 (Nat.le_of_ble_eq_true rfl) (hts _ q1174) (fun _ h9 => h9) rfl dX8_chance_35 ?_
          refine lv_iconst (v := 1) hx hb dX8_chance_38 ci_1 ?_
          refine xa_iald hx hb hg hP 1 rfl xl_1 (by first | omega | exact Nat.lt_of_lt_of_le (Nat.mod_lt _ (by omega)) (by omega)) (by omega) dX8_chance_39 ?_
          refine lv_icmp_ge (tgt := 61) hx hb dX8_chance_40 (by decide) (fun c => absurd c (xle_f (hrn 1 (by omega)).1 rfl (by omega) (by omega))) (fun _ => ?_)
          refine lv_iload_n hx hb dX8_chance_43 rfl (lv_at hl 1 rfl) ?_
          refine lv_aload_n hx hb dX8_chance_44 rfl (lv_at hl 2 rfl) ?_
          refine va_get (D := D) (ci := 10) (v := .ref (r 34)) (C := RX8) (T := TX8) (N := 37) hx hb hts in_X8 hown hg.1 hP 0 rfl rfl 34 (Nat.le_of_ble_eq_true rfl) (hts _ q1175) (fun _ h9 => h9) rfl dX8_chance_45 ?_
          refine lv_bipush (v := 8) hx hb dX8_chance_48 cb_8 ?_
          refine lv_iload_n hx hb dX8_chance_50 rfl (lv_at hl 0 rfl) ?_
          refine lv_iadd hx hb dX8_chance_51 ?_
          refine xa_iald hx hb hg hP 2 rfl (xnadd xl_8 rfl) (by first | omega | exact Nat.lt_of_lt_of_le (Nat.mod_lt _ (by omega)) (by omega)) (by omega) dX8_chance_52 ?_
          refine lv_iadd hx hb dX8_chance_53 ?_
          refine lv_topi (fun x10 ex10 => ?_)
          refine lv_istore_n (lv' := [(1, .int x10), (2, .int (nI i4)), (0, .ref o)]) hx hb dX8_chance_54 rfl hl (Nat.le_of_ble_eq_true rfl) rfl (fun ls hl => ?_)
          refine lv_iinc (v := (nI (i4 + 1))) (lv' := [(2, .int (nI (i4 + 1))), (1, .int x10), (0, .ref o)]) hx hb dX8_chance_55 hl (k := 1) rfl (xinc1 _) (Nat.le_of_ble_eq_true rfl) rfl (fun ls hl => ?_)
          refine lv_goto (tgt := 33) hx hb dX8_chance_58 (by decide) ?_
          exact ih4 (i4 + 1) x10 _ _ _ (by omega) (Eq.trans (by subst ex10; exact rfl) (congrArg (f_X8_chance_l33 tl i4) eX4)) hP hD hS (lv_sub hl [0, 1, 2] rfl)
      exact loop4 (rn 1) 0 0 _ _ _ (by omega) rfl hP hD hS (by have h := (lv_sub hl [0, 1, 2] rfl); exact h)
    · refine lv_aload_n hx hb dX8_chance_23 rfl (lv_at hl 0 rfl) ?_
      refine lv_iconst (v := 5) hx hb dX8_chance_24 ci_5 ?_
      refine xc_i (wc := [(o, eMM r mv fr (upd I 0 0) L)]) (wr := [((r 33), aI k 2 rw), ((r 34), aI k 16 tl)]) hP hD hS hA [0] [1, 2] rfl rfl rfl (by decide) (xrV ⟨hx, hb, hml, hown, hts⟩ hg (m_X8_refused l D k _ o r mv fr (upd I 0 0) L 5) hP hD [0] rfl rfl trivial (ci := 10) (q0 := 0) rfl rfl rfl q1265 q1267 qs39 q93 q1268 xo_X8_refused ⟨rfl, rfl⟩ ⟨Nat.le_of_ble_eq_true rfl, Nat.le_of_ble_eq_true rfl⟩ hl.1 (Nat.le_of_ble_eq_true rfl) dX8_chance_25 ⟨Nat.le_of_ble_eq_true rfl, Nat.le_of_ble_eq_true rfl⟩ rfl) (fun r_ u11 H locs hw hP hD hS hk => ?_)
      obtain ⟨rfl, eu11⟩ := hw
      replace hP : va_P D vwCl [(o, eMM r mv fr (upd (upd (upd I 0 0) 1 u11.2.1) 2 u11.2.2) L), ((r 33), aI k 2 rw), ((r 34), aI k 16 tl)] H := hP.sub [2, 0, 1] rfl
      replace hD : va_D A [(o, eMM r mv fr (upd (upd (upd I 0 0) 1 u11.2.1) 2 u11.2.2) L), ((r 33), aI k 2 rw), ((r 34), aI k 16 tl)] := hD.sub [2, 0, 1] (by decide) rfl
      exact xret_i hx hb hr hlocks (Nat.le_of_ble_eq_true rfl) (Nat.le_of_ble_eq_true rfl) hS.2.2 dX8_chance_28 (fun t ht => ⟨⟨u11.1, (u11.1, 0, u11.2.1, u11.2.2), rfl, ⟨rfl, (by subst eu11; exact Eq.symm (Eq.trans (if_neg c1) (Eq.trans (if_pos c3) (rfl))))⟩, by rw [ht]; exact hP, hD⟩, hS.F ht⟩)

def f_X8_splits_j1 (rw : Nat → Int32) (tl : Nat → Int32) (rn : Nat → Nat) : (Int32) × (Int32) × (Int32) :=
  if (rw 0) = 0 then
    let u15 := f_X8_refused 5
    (u15.1, u15.2.1, u15.2.2)
  else
    if (rw 1) = 0 then
      let u19 := f_X8_refused 5
      (u19.1, u19.2.1, u19.2.2)
    else
      let u17 := f_X8_splitsFrom rw tl rn 0 (2 ^ (rn 0 + rn 1))
      let u18 := f_X8_done u17
      (u18.1, u18.2.1, u18.2.2)
def f_X8_splits (rw : Nat → Int32) (tl : Nat → Int32) (rn : Nat → Nat) : Int32 × Int32 × Int32 × Int32 :=
  let v13 := f_X8_splits_j1 rw tl rn
  (v13.1, 0, v13.2.1, v13.2.2)
abbrev q_X8_splits (D : va_G) (k : KK) (o : Nat) (r : Nat → Nat) (mv : Value) (fr : Value) (I : Nat → Int32) (L : Nat → Int64) (rw : Nat → Int32) (tl : Nat → Int32) (rn : Nat → Nat) (A : Nat → Prop) : Array Value → State → Outcome → State → Prop := va_Qi (fun (r_ : Int32) (u : Int32 × Int32 × Int32 × Int32) => r_ = u.1 ∧ u = f_X8_splits rw tl rn) (bx D (fun u => [(o, eMM r mv fr (upd (upd (upd I 0 u.2.1) 1 u.2.2.1) 2 u.2.2.2) L), ((r 33), aI k 2 rw), ((r 34), aI k 16 tl)]) A) A
abbrev rm_X8_splits : Room := { frames := 3, cells := 0, slots := 0, locals := 120 }
theorem xo_X8_splits : xok yX8_splits 0 := by unfold xok; decide +kernel
set_option maxHeartbeats 8000000 in
theorem m_X8_splits (l : Launch) (D : va_G) (k : KK) (sz : Nat) (o : Nat) (r : Nat → Nat) (mv : Value) (fr : Value) (I : Nat → Int32) (L : Nat → Int64) (rw : Nat → Int32) (tl : Nat → Int32) (rn : Nat → Nat) (hrn : ∀ j, j < 2 → rw j = nI (rn j) ∧ rn j ≤ 8) : Met l yX8_splits (ws_ yX8_splits cX8_splits 1 (some .int)) rm_X8_splits (pcx D k [.ref o] sz [(o, eMM r mv fr I L), ((r 33), aI k 2 rw), ((r 34), aI k 16 tl)] (fun _ => True)) (q_X8_splits D k o r mv fr I L rw tl rn (va_A [(o, eMM r mv fr I L), ((r 33), aI k 2 rw), ((r 34), aI k 16 tl)] sz)) 0 0 (va_A [(o, eMM r mv fr I L), ((r 33), aI k 2 rw), ((r 34), aI k 16 tl)] sz) := by
  refine Met.start (Qc := q_X8_splits D k o r mv fr I L rw tl rn) (by decide) (Nat.le_of_ble_eq_true rfl) ?_
  intro p e s m below meth c A hx hb hr hlocks hml hown hin hts hg hP hD hA hAn hS hY hsz ls hl
  have hown : s.vm.findClass RX8 = some m.cls := hown
  have hl : lv_has ls 1 [(0, .ref o)] := hl
  have hr0 := (hrn 0 (by omega)).2
  have hr1 := (hrn 1 (by omega)).2
  refine lv_aload_n hx hb dX8_splits_0 rfl (lv_at hl 0 rfl) ?_
  refine lv_iconst (v := 0) hx hb dX8_splits_1 ci_0 ?_
  refine va_put (D := D) (ci := 10) (v := .int 0) (C := RX8) (T := TX8) (N := 37) hx hb hts in_X8 tyX8 tyX8_ok nmX8 hown hg.1 hP hD hS 0 rfl rfl 0 (Nat.le_of_ble_eq_true rfl) (hts _ q1141) (fun _ h9 => h9) rfl ftX8_0 rfl rfl (Nat.le_of_ble_eq_true rfl) dX8_splits_2 (fun H locs hP hD hS => ?_)
  replace hP : va_P D vwCl [(o, eMM r mv fr (upd I 0 0) L), ((r 33), aI k 2 rw), ((r 34), aI k 16 tl)] H := hP
  replace hD : va_D A [(o, eMM r mv fr (upd I 0 0) L), ((r 33), aI k 2 rw), ((r 34), aI k 16 tl)] := hD
  refine lv_aload_n hx hb dX8_splits_5 rfl (lv_at hl 0 rfl) ?_
  refine va_get (D := D) (ci := 10) (v := .ref (r 33)) (C := RX8) (T := TX8) (N := 37) hx hb hts in_X8 hown hg.1 hP 0 rfl rfl 33 (Nat.le_of_ble_eq_true rfl) (hts _ q1174) (fun _ h9 => h9) rfl dX8_splits_6 ?_
  refine lv_iconst (v := 0) hx hb dX8_splits_9 ci_0 ?_
  refine xa_iald hx hb hg hP 1 rfl xl_0 (by first | omega | exact Nat.lt_of_lt_of_le (Nat.mod_lt _ (by omega)) (by omega)) (by omega) dX8_splits_10 ?_
  have Jn1 : ∀ (v13 : (Int32) × (Int32) × (Int32)) (H : Heap) (locs : List Loc) (ls : Array Slot), v13 = f_X8_splits_j1 rw tl rn → va_P D vwCl [(o, eMM r mv fr (upd (upd (upd I 0 0) 1 v13.2.1) 2 v13.2.2) L), ((r 33), aI k 2 rw), ((r 34), aI k 16 tl)] H → va_D A [(o, eMM r mv fr (upd (upd (upd I 0 0) 1 v13.2.1) 2 v13.2.2) L), ((r 33), aI k 2 rw), ((r 34), aI k 16 tl)] → va_S A s.heap H locs → lv_has ls 1 [(0, .ref o)] → W p l e rm_X8_splits s m ([.ref o] : List Value).toArray below meth c H locs 0 0 (MQ below (q_X8_splits D k o r mv fr I L rw tl rn A) ([.ref o] : List Value).toArray s 0 0 A) (F0 m 40 ls [.int v13.1]) := by
    intro v13 H locs ls ev13 hP hD hS hl
    exact xret_i hx hb hr hlocks (Nat.le_of_ble_eq_true rfl) (Nat.le_of_ble_eq_true rfl) hS.2.2 dX8_splits_40 (fun t ht => ⟨⟨v13.1, (v13.1, 0, v13.2.1, v13.2.2), rfl, ⟨rfl, (by subst ev13; exact rfl)⟩, by rw [ht]; exact hP, hD⟩, hS.F ht⟩)
  refine lv_if_eq (tgt := 23) hx hb dX8_splits_11 (by decide) (fun c14 => ?_) (fun c14 => ?_)
  · refine lv_aload_n hx hb dX8_splits_23 rfl (lv_at hl 0 rfl) ?_
    refine lv_iconst (v := 5) hx hb dX8_splits_24 ci_5 ?_
    refine xc_i (wc := [(o, eMM r mv fr (upd I 0 0) L)]) (wr := [((r 33), aI k 2 rw), ((r 34), aI k 16 tl)]) hP hD hS hA [0] [1, 2] rfl rfl rfl (by decide) (xrV ⟨hx, hb, hml, hown, hts⟩ hg (m_X8_refused l D k _ o r mv fr (upd I 0 0) L 5) hP hD [0] rfl rfl trivial (ci := 10) (q0 := 0) rfl rfl rfl q1265 q1267 qs39 q93 q1268 xo_X8_refused ⟨rfl, rfl⟩ ⟨Nat.le_of_ble_eq_true rfl, Nat.le_of_ble_eq_true rfl⟩ hl.1 (Nat.le_of_ble_eq_true rfl) dX8_splits_25 ⟨Nat.le_of_ble_eq_true rfl, Nat.le_of_ble_eq_true rfl⟩ rfl) (fun r_ u15 H locs hw hP hD hS hk => ?_)
    obtain ⟨rfl, eu15⟩ := hw
    replace hP : va_P D vwCl [(o, eMM r mv fr (upd (upd (upd I 0 0) 1 u15.2.1) 2 u15.2.2) L), ((r 33), aI k 2 rw), ((r 34), aI k 16 tl)] H := hP.sub [2, 0, 1] rfl
    replace hD : va_D A [(o, eMM r mv fr (upd (upd (upd I 0 0) 1 u15.2.1) 2 u15.2.2) L), ((r 33), aI k 2 rw), ((r 34), aI k 16 tl)] := hD.sub [2, 0, 1] (by decide) rfl
    refine lv_goto (tgt := 40) hx hb dX8_splits_28 (by decide) ?_
    exact Jn1 (u15.1, u15.2.1, u15.2.2) _ _ _ (by subst eu15; exact Eq.symm (Eq.trans (if_pos c14) (rfl))) hP hD hS (lv_sub hl [0] rfl)
  · refine lv_aload_n hx hb dX8_splits_14 rfl (lv_at hl 0 rfl) ?_
    refine va_get (D := D) (ci := 10) (v := .ref (r 33)) (C := RX8) (T := TX8) (N := 37) hx hb hts in_X8 hown hg.1 hP 0 rfl rfl 33 (Nat.le_of_ble_eq_true rfl) (hts _ q1174) (fun _ h9 => h9) rfl dX8_splits_15 ?_
    refine lv_iconst (v := 1) hx hb dX8_splits_18 ci_1 ?_
    refine xa_iald hx hb hg hP 1 rfl xl_1 (by first | omega | exact Nat.lt_of_lt_of_le (Nat.mod_lt _ (by omega)) (by omega)) (by omega) dX8_splits_19 ?_
    refine lv_if_ne (tgt := 31) hx hb dX8_splits_20 (by decide) (fun c16 => ?_) (fun c16 => ?_)
    · refine lv_aload_n hx hb dX8_splits_31 rfl (lv_at hl 0 rfl) ?_
      refine lv_aload_n hx hb dX8_splits_32 rfl (lv_at hl 0 rfl) ?_
      refine lv_iconst (v := 0) hx hb dX8_splits_33 ci_0 ?_
      refine xc_i (wc := [(o, eMM r mv fr (upd I 0 0) L), ((r 33), aI k 2 rw), ((r 34), aI k 16 tl)]) (wr := []) hP hD hS hA [0, 1, 2] [] rfl rfl rfl (by decide) (xrV ⟨hx, hb, hml, hown, hts⟩ hg (m_X8_splitsFrom l D k _ o r mv fr (upd I 0 0) L rw tl rn 0 (2 ^ (rn 0 + rn 1)) hrn rfl (pow2_16 hr0 hr1)) hP hD [0, 1, 2] rfl rfl trivial (ci := 10) (q0 := 0) rfl rfl rfl q1656 q1658 qs80 q93 q1659 xo_X8_splitsFrom ⟨rfl, rfl⟩ ⟨Nat.le_of_ble_eq_true rfl, Nat.le_of_ble_eq_true rfl⟩ hl.1 (Nat.le_of_ble_eq_true rfl) dX8_splits_34 ⟨Nat.le_of_ble_eq_true rfl, Nat.le_of_ble_eq_true rfl⟩ rfl) (fun u17 r_ H locs hw hP hD hS hk => ?_)
      obtain ⟨rfl, eu17⟩ := hw
      replace hP : va_P D vwCl [(o, eMM r mv fr (upd I 0 0) L), ((r 33), aI k 2 rw), ((r 34), aI k 16 tl)] H := hP.sub [0, 1, 2] rfl
      replace hD : va_D A [(o, eMM r mv fr (upd I 0 0) L), ((r 33), aI k 2 rw), ((r 34), aI k 16 tl)] := hD.sub [0, 1, 2] (by decide) rfl
      refine xc_i (wc := [(o, eMM r mv fr (upd I 0 0) L)]) (wr := [((r 33), aI k 2 rw), ((r 34), aI k 16 tl)]) hP hD hS hA [0] [1, 2] rfl rfl rfl (by decide) (xrV ⟨hx, hb, hml, hown, hts⟩ hg (m_X8_done l D k _ o r mv fr (upd I 0 0) L u17) hP hD [0] rfl rfl trivial (ci := 10) (q0 := 0) rfl rfl rfl q1482 q1484 qs60 q93 q1485 xo_X8_done ⟨rfl, rfl⟩ ⟨Nat.le_of_ble_eq_true rfl, Nat.le_of_ble_eq_true rfl⟩ hl.1 (Nat.le_of_ble_eq_true rfl) dX8_splits_37 ⟨Nat.le_of_ble_eq_true rfl, Nat.le_of_ble_eq_true rfl⟩ rfl) (fun r_ u18 H locs hw hP hD hS hk => ?_)
      obtain ⟨rfl, eu18⟩ := hw
      replace hP : va_P D vwCl [(o, eMM r mv fr (upd (upd (upd I 0 0) 1 u18.2.1) 2 u18.2.2) L), ((r 33), aI k 2 rw), ((r 34), aI k 16 tl)] H := hP.sub [2, 0, 1] rfl
      replace hD : va_D A [(o, eMM r mv fr (upd (upd (upd I 0 0) 1 u18.2.1) 2 u18.2.2) L), ((r 33), aI k 2 rw), ((r 34), aI k 16 tl)] := hD.sub [2, 0, 1] (by decide) rfl
      exact Jn1 (u18.1, u18.2.1, u18.2.2) _ _ _ (by subst eu18; subst eu17; exact Eq.symm (Eq.trans (if_neg c14) (Eq.trans (if_neg c16) (rfl)))) hP hD hS (lv_sub hl [0] rfl)
    · refine lv_aload_n hx hb dX8_splits_23 rfl (lv_at hl 0 rfl) ?_
      refine lv_iconst (v := 5) hx hb dX8_splits_24 ci_5 ?_
      refine xc_i (wc := [(o, eMM r mv fr (upd I 0 0) L)]) (wr := [((r 33), aI k 2 rw), ((r 34), aI k 16 tl)]) hP hD hS hA [0] [1, 2] rfl rfl rfl (by decide) (xrV ⟨hx, hb, hml, hown, hts⟩ hg (m_X8_refused l D k _ o r mv fr (upd I 0 0) L 5) hP hD [0] rfl rfl trivial (ci := 10) (q0 := 0) rfl rfl rfl q1265 q1267 qs39 q93 q1268 xo_X8_refused ⟨rfl, rfl⟩ ⟨Nat.le_of_ble_eq_true rfl, Nat.le_of_ble_eq_true rfl⟩ hl.1 (Nat.le_of_ble_eq_true rfl) dX8_splits_25 ⟨Nat.le_of_ble_eq_true rfl, Nat.le_of_ble_eq_true rfl⟩ rfl) (fun r_ u19 H locs hw hP hD hS hk => ?_)
      obtain ⟨rfl, eu19⟩ := hw
      replace hP : va_P D vwCl [(o, eMM r mv fr (upd (upd (upd I 0 0) 1 u19.2.1) 2 u19.2.2) L), ((r 33), aI k 2 rw), ((r 34), aI k 16 tl)] H := hP.sub [2, 0, 1] rfl
      replace hD : va_D A [(o, eMM r mv fr (upd (upd (upd I 0 0) 1 u19.2.1) 2 u19.2.2) L), ((r 33), aI k 2 rw), ((r 34), aI k 16 tl)] := hD.sub [2, 0, 1] (by decide) rfl
      refine lv_goto (tgt := 40) hx hb dX8_splits_28 (by decide) ?_
      exact Jn1 (u19.1, u19.2.1, u19.2.2) _ _ _ (by subst eu19; exact Eq.symm (Eq.trans (if_neg c14) (Eq.trans (if_pos c16) (rfl)))) hP hD hS (lv_sub hl [0] rfl)

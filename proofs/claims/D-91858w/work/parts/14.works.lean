set_option maxRecDepth 100000
/-! THE WORKS, READ ONLY: wa the object, wd its addresses (refs of the object, the arrays' contents, the sizes' and ores' addresses, their refs), WI its ints, pr the prices, SI and OI the sizes' and ores' ints, tn the ores' tons -/
abbrev WAd : Type := (Nat → Nat) × (Nat → Option Nat) × (Nat → Option Nat) × (Nat → Nat) × (Nat → Nat) × (Nat → Nat → Nat) × (Nat → Nat → Nat)
def wkP (D : va_G) (k : KK) (wa : Nat) (wd : WAd) (WI pr : Nat → Int32) (SI OI tn : Nat → Nat → Int32) (nS nO : Nat) (H : Heap) : Prop :=
  va_P D vwCl [(wa, eWK wd.1 WI), (wd.1 0, aSZ k 5 wd.2.1), (wd.1 1, aOR k 4 wd.2.2.1), (wd.1 2, aI k 6 pr)] H ∧ (∀ j, j < nS → wd.2.1 j = some (wd.2.2.2.1 j) ∧ va_P D vwCl [(wd.2.2.2.1 j, eSZ (wd.2.2.2.2.2.1 j) (SI j))] H) ∧ ∀ j, j < nO → wd.2.2.1 j = some (wd.2.2.2.2.1 j) ∧ va_P D vwCl [(wd.2.2.2.2.1 j, eOR (wd.2.2.2.2.2.2 j) (OI j)), (wd.2.2.2.2.2.2 j 2, aI k 5 (tn j))] H
def wkA (wa : Nat) (wd : WAd) (nS nO : Nat) (A : Nat → Prop) : Prop := (∀ q ∈ [wa, wd.1 0, wd.1 1, wd.1 2], ¬ A q) ∧ (∀ j, j < nS → ¬ A (wd.2.2.2.1 j)) ∧ ∀ j, j < nO → ¬ A (wd.2.2.2.2.1 j) ∧ ¬ A (wd.2.2.2.2.2.2 j 2)
abbrev wkY (D : va_G) (k : KK) (wa : Nat) (wd : WAd) (WI pr : Nat → Int32) (SI OI tn : Nat → Nat → Int32) (nS nO : Nat) (A : Nat → Prop) : Heap → Prop := fun H => wkP D k wa wd WI pr SI OI tn nS nO H ∧ wkA wa wd nS nO A
theorem wkA.mono {wa : Nat} {wd : WAd} {nS nO : Nat} {A B : Nat → Prop} (h : wkA wa wd nS nO A) (hB : ∀ q, B q → A q) : wkA wa wd nS nO B := ⟨fun q hq z => h.1 q hq (hB q z), fun j hj z => h.2.1 j hj (hB _ z), fun j hj => ⟨fun z => (h.2.2 j hj).1 (hB _ z), fun z => (h.2.2 j hj).2 (hB _ z)⟩⟩
theorem wkY.mono {D : va_G} {k : KK} {wa : Nat} {wd : WAd} {WI pr : Nat → Int32} {SI OI tn : Nat → Nat → Int32} {nS nO : Nat} {A B : Nat → Prop} {H : Heap} (h : wkY D k wa wd WI pr SI OI tn nS nO A H) (hB : ∀ q, B q → A q) : wkY D k wa wd WI pr SI OI tn nS nO B H := ⟨h.1, h.2.mono hB⟩
/-- cells that aren't written stay -/
theorem va_P.stay {D : va_G} {ws : va_W} {H0 H : Heap} (h : va_P D vwCl ws H0) (hq : ∀ (j : Nat) (q : Nat × va_E), ws[j]? = some q → q.1 < H0.size → H[q.1]? = H0[q.1]?) : va_P D vwCl ws H := fun j q hj => (h j q hj).kept (hq j q hj (h j q hj).lt)
theorem wkP.stay {D : va_G} {k : KK} {wa : Nat} {wd : WAd} {WI pr : Nat → Int32} {SI OI tn : Nat → Nat → Int32} {nS nO : Nat} {A : Nat → Prop} {H0 H : Heap} (h : wkP D k wa wd WI pr SI OI tn nS nO H0) (hA : wkA wa wd nS nO A) (hq : ∀ q : Nat, q < H0.size → ¬ A q → H[q]? = H0[q]?) : wkP D k wa wd WI pr SI OI tn nS nO H := by
  refine ⟨h.1.stay (fun j q hj hl => hq q.1 hl (hA.1 q.1 ?_)), fun j hj => ⟨(h.2.1 j hj).1, (h.2.1 j hj).2.stay (fun i q hi hl => hq q.1 hl ?_)⟩, fun j hj => ⟨(h.2.2 j hj).1, (h.2.2 j hj).2.stay (fun i q hi hl => hq q.1 hl ?_)⟩⟩
  · have h1 := List.mem_of_getElem? hj
    simp only [List.mem_cons, List.not_mem_nil, or_false] at h1 ⊢
    rcases h1 with e | e | e | e <;> rw [e] <;> simp
  · have h1 := List.mem_of_getElem? hi
    simp only [List.mem_cons, List.not_mem_nil, or_false] at h1
    rw [h1]; exact hA.2.1 j hj
  · have h1 := List.mem_of_getElem? hi
    simp only [List.mem_cons, List.not_mem_nil, or_false] at h1
    rcases h1 with e | e <;> rw [e]
    · exact (hA.2.2 j hj).1
    · exact (hA.2.2 j hj).2
theorem wkat {D : va_G} {k : KK} {wa : Nat} {wd : WAd} {WI pr : Nat → Int32} {SI OI tn : Nat → Nat → Int32} {nS nO : Nat} {A : Nat → Prop} {H0 H : Heap} {locs : List Loc} (h : wkY D k wa wd WI pr SI OI tn nS nO A H0) (hS : va_S A H0 H locs) : wkP D k wa wd WI pr SI OI tn nS nO H := h.1.stay h.2 hS.2.1
theorem wkcall {D : va_G} {k : KK} {wa : Nat} {wd : WAd} {WI pr : Nat → Int32} {SI OI tn : Nat → Nat → Int32} {nS nO : Nat} {A B : Nat → Prop} {H0 H : Heap} {locs : List Loc} (h : wkY D k wa wd WI pr SI OI tn nS nO A H0) (hS : va_S A H0 H locs) (hB : ∀ q, B q → A q) : wkY D k wa wd WI pr SI OI tn nS nO B H := ⟨wkat h hS, h.2.mono hB⟩
/-- the works, and one object of settings that is only read -/
def wkZ (D : va_G) (k : KK) (wa : Nat) (wd : WAd) (WI pr : Nat → Int32) (SI OI tn : Nat → Nat → Int32) (nS nO : Nat) (se : Nat) (J : Nat → Int32) (A : Nat → Prop) (H : Heap) : Prop := wkY D k wa wd WI pr SI OI tn nS nO A H ∧ va_P D vwCl [(se, eSE J)] H ∧ ¬ A se
theorem wkZ.mono {D : va_G} {k : KK} {wa : Nat} {wd : WAd} {WI pr : Nat → Int32} {SI OI tn : Nat → Nat → Int32} {nS nO se : Nat} {J : Nat → Int32} {A B : Nat → Prop} {H : Heap} (h : wkZ D k wa wd WI pr SI OI tn nS nO se J A H) (hB : ∀ q, B q → A q) : wkZ D k wa wd WI pr SI OI tn nS nO se J B H := ⟨h.1.mono hB, h.2.1, fun z => h.2.2 (hB _ z)⟩
theorem va_P1.stay {D : va_G} {a : Nat} {e : va_E} {A : Nat → Prop} {H0 H : Heap} (h : va_P D vwCl [(a, e)] H0) (hA : ¬ A a) (hq : ∀ q : Nat, q < H0.size → ¬ A q → H[q]? = H0[q]?) : va_P D vwCl [(a, e)] H := h.stay (fun j q hj hl => by
  have h1 := List.mem_of_getElem? hj
  simp only [List.mem_cons, List.not_mem_nil, or_false] at h1
  subst h1
  exact hq _ hl hA)
theorem wzat {D : va_G} {k : KK} {wa : Nat} {wd : WAd} {WI pr : Nat → Int32} {SI OI tn : Nat → Nat → Int32} {nS nO se : Nat} {J : Nat → Int32} {A : Nat → Prop} {H0 H : Heap} {locs : List Loc} (h : wkZ D k wa wd WI pr SI OI tn nS nO se J A H0) (hS : va_S A H0 H locs) : va_P D vwCl [(se, eSE J)] H := va_P1.stay h.2.1 h.2.2 hS.2.1
theorem wzcall {D : va_G} {k : KK} {wa : Nat} {wd : WAd} {WI pr : Nat → Int32} {SI OI tn : Nat → Nat → Int32} {nS nO se : Nat} {J : Nat → Int32} {A B : Nat → Prop} {H0 H : Heap} {locs : List Loc} (h : wkZ D k wa wd WI pr SI OI tn nS nO se J A H0) (hS : va_S A H0 H locs) (hB : ∀ q, B q → A q) : wkZ D k wa wd WI pr SI OI tn nS nO se J B H := ⟨wkcall h.1 hS hB, wzat h hS, fun z => h.2.2 (hB _ z)⟩
/-- a cell of the caller's that isn't the callee's is only read there -/
theorem va_apc {D : va_G} {A : Nat → Prop} {ws wc : va_W} {H : Heap} (hP : va_P D vwCl ws H) (hD : va_D A ws) (isC : List Nat) (hC : isC.map (fun i => ws[i]?) = wc.map some) (p : Nat) {a : Nat} {e : va_E} (hp : ws[p]? = some (a, e)) (hn : p ∉ isC) : ¬ va_A wc H.size a := by
  intro h
  rcases h with ⟨k2, e2, h⟩ | h
  · obtain ⟨j, h3, h4⟩ := va_in_of isC hC h
    have := hD.1 p j (a, e) (a, e2) hp h4 rfl
    subst this
    exact hn (List.mem_of_getElem? h3)
  · have := (hP p _ hp).lt
    have h2 : a < H.size := this
    omega
theorem wzexp {D : va_G} {k : KK} {wa : Nat} {wd : WAd} {WI pr : Nat → Int32} {SI OI tn : Nat → Nat → Int32} {nS nO se : Nat} {J : Nat → Int32} {A : Nat → Prop} {ws wc : va_W} {H : Heap} (h : wkY D k wa wd WI pr SI OI tn nS nO (va_A wc H.size) H) (hP : va_P D vwCl ws H) (hD : va_D A ws) (isC : List Nat) (hC : isC.map (fun i => ws[i]?) = wc.map some) (p : Nat) (hp : ws[p]? = some (se, eSE J)) (hn : p ∉ isC) : wkZ D k wa wd WI pr SI OI tn nS nO se J (va_A wc H.size) H := ⟨h, fun j q hj => by
  have h1 := List.mem_of_getElem? hj
  simp only [List.mem_cons, List.not_mem_nil, or_false] at h1
  subst h1
  exact hP p _ hp, va_apc hP hD isC hC p hp hn⟩
/-- the program's settings, only read -/
def pgP (D : va_G) (k : KK) (ga : Nat) (pa : Nat → Option Nat) (pd : Nat → Nat) (PJ : Nat → Nat → Int32) (A : Nat → Prop) (H : Heap) : Prop := (va_P D vwCl [(ga, aSE k 12 pa)] H ∧ ¬ A ga) ∧ ∀ j, j < 12 → pa j = some (pd j) ∧ va_P D vwCl [(pd j, eSE (PJ j))] H ∧ ¬ A (pd j)
theorem pgP.mono {D : va_G} {k : KK} {ga : Nat} {pa : Nat → Option Nat} {pd : Nat → Nat} {PJ : Nat → Nat → Int32} {A B : Nat → Prop} {H : Heap} (h : pgP D k ga pa pd PJ A H) (hB : ∀ q, B q → A q) : pgP D k ga pa pd PJ B H := ⟨⟨h.1.1, fun z => h.1.2 (hB _ z)⟩, fun j hj => ⟨(h.2 j hj).1, (h.2 j hj).2.1, fun z => (h.2 j hj).2.2 (hB _ z)⟩⟩
theorem pgP.stay {D : va_G} {k : KK} {ga : Nat} {pa : Nat → Option Nat} {pd : Nat → Nat} {PJ : Nat → Nat → Int32} {A : Nat → Prop} {H0 H : Heap} (h : pgP D k ga pa pd PJ A H0) (hq : ∀ q : Nat, q < H0.size → ¬ A q → H[q]? = H0[q]?) : pgP D k ga pa pd PJ A H := ⟨⟨va_P1.stay h.1.1 h.1.2 hq, h.1.2⟩, fun j hj => ⟨(h.2 j hj).1, va_P1.stay (h.2 j hj).2.1 (h.2 j hj).2.2 hq, (h.2 j hj).2.2⟩⟩
theorem pgat {D : va_G} {k : KK} {ga : Nat} {pa : Nat → Option Nat} {pd : Nat → Nat} {PJ : Nat → Nat → Int32} {A : Nat → Prop} {H0 H : Heap} {locs : List Loc} (h : pgP D k ga pa pd PJ A H0) (hS : va_S A H0 H locs) : pgP D k ga pa pd PJ A H := h.stay hS.2.1
theorem wzpg {D : va_G} {k : KK} {wa : Nat} {wd : WAd} {WI pr : Nat → Int32} {SI OI tn : Nat → Nat → Int32} {nS nO : Nat} {ga : Nat} {pa : Nat → Option Nat} {pd : Nat → Nat} {PJ : Nat → Nat → Int32} {A B : Nat → Prop} {H0 H : Heap} {locs : List Loc} (hW : wkY D k wa wd WI pr SI OI tn nS nO A H0) (hG : pgP D k ga pa pd PJ A H0) (hS : va_S A H0 H locs) (hB : ∀ q, B q → A q) (j : Nat) (hj : j < 12) : wkZ D k wa wd WI pr SI OI tn nS nO (pd j) (PJ j) B H := ⟨wkcall hW hS hB, ((pgat hG hS).2 j hj).2.1, fun z => (hG.2 j hj).2.2 (hB _ z)⟩

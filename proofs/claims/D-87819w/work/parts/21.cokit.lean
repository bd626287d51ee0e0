/-! the class's memory: the heap's size, each cell's kind, its ints, its references, both by a tag (field: 100 * (class + 1) + number; array: its kind), a cell and a place -/
abbrev Mm : Type := Nat × (Nat → Nat) × (Nat → Nat → Nat → Int32) × (Nat → Nat → Nat → Nat)
def mZ (M : Mm) : Nat := M.1
def mK (M : Mm) : Nat → Nat := M.2.1
def mI (M : Mm) : Nat → Nat → Nat → Int32 := M.2.2.1
def mP (M : Mm) : Nat → Nat → Nat → Nat := M.2.2.2
def up3 {α : Type} (f : Nat → Nat → Nat → α) (t a i : Nat) (v : α) : Nat → Nat → Nat → α := fun t' a' i' => if t' = t ∧ a' = a ∧ i' = i then v else f t' a' i'
def cp3 {α : Type} (f : Nat → Nat → Nat → α) (t a b sp dp n : Nat) : Nat → Nat → Nat → α := fun t' b' i => if t' = t ∧ b' = b ∧ dp ≤ i ∧ i < dp + n then f t a (sp + (i - dp)) else f t' b' i
def sI (M : Mm) (t a i : Nat) (v : Int32) : Mm := (M.1, M.2.1, up3 M.2.2.1 t a i v, M.2.2.2)
def sP (M : Mm) (t a i v : Nat) : Mm := (M.1, M.2.1, M.2.2.1, up3 M.2.2.2 t a i v)
def cI (M : Mm) (t a b sp dp n : Nat) : Mm := (M.1, M.2.1, cp3 M.2.2.1 t a b sp dp n, M.2.2.2)
def cP (M : Mm) (t a b sp dp n : Nat) : Mm := (M.1, M.2.1, M.2.2.1, cp3 M.2.2.2 t a b sp dp n)
def sN (M : Mm) (k : Nat) : Mm := (M.1 + 1, fun a => if a = M.1 then k else M.2.1 a, fun t a i => if a = M.1 then 0 else M.2.2.1 t a i, fun t a i => if a = M.1 then 0 else M.2.2.2 t a i)
def rfV (n : Nat) : Value := if n = 0 then .null else .ref n
theorem rfV_ne {n : Nat} (h : n ≠ 0) : rfV n = .ref n := if_neg h
def ckL : List Nat := [0, 1, 2, 3, 4, 5, 7, 8, 10, 11, 12]
def ckR (c : Nat) : String := match c with
  | 0 => RX0 | 1 => RX1 | 2 => RX2 | 3 => RX3 | 4 => RX4 | 5 => RX5 | 7 => RX7 | 8 => RX8 | 10 => RX10 | 11 => RX11 | _ => RX12
def ckT (c : Nat) : u_T := match c with
  | 0 => TX0 | 1 => TX1 | 2 => TX2 | 3 => TX3 | 4 => TX4 | 5 => TX5 | 8 => TX8 | _ => TX11
def ckN (c : Nat) : Nat := match c with
  | 0 => 33 | 1 => 2 | 2 => 2 | 3 => 2 | 4 => 3 | 5 => 4 | 8 => 7 | 11 => 1 | _ => 0
def ckY (c : Nat) : Nat → FieldType := match c with
  | 0 => tyX0 | 1 => tyX1 | 2 => tyX2 | 3 => tyX3 | 4 => tyX4 | 5 => tyX5 | 8 => tyX8 | _ => tyX11
theorem ck_all {P : Nat → Prop} (h0 : P 0) (h1 : P 1) (h2 : P 2) (h3 : P 3) (h4 : P 4) (h5 : P 5) (h7 : P 7) (h8 : P 8) (h10 : P 10) (h11 : P 11) (h12 : P 12) : ∀ c ∈ ckL, P c := by
  intro c hc
  simp only [ckL, List.mem_cons, List.not_mem_nil, or_false] at hc
  rcases hc with rfl | rfl | rfl | rfl | rfl | rfl | rfl | rfl | rfl | rfl | rfl <;> assumption
theorem ck_in : ∀ c ∈ ckL, ∀ w ∈ u_ws (ckR c) (ckT c) (ckN c), w ∈ lw_all := ck_all in_X0 in_X1 in_X2 in_X3 in_X4 in_X5 (fun w h => by cases h) in_X8 (fun w h => by cases h) in_X11 (fun w h => by cases h)
theorem ck_nm : ∀ c ∈ ckL, ∀ a, a < ckN c → ∀ b, b < ckN c → a ≠ b → (ckT c a).2.1 ≠ (ckT c b).2.1 := ck_all nmX0 nmX1 nmX2 nmX3 nmX4 nmX5 (fun a h => absurd h (Nat.not_lt_zero a)) nmX8 (fun a h => absurd h (Nat.not_lt_zero a)) nmX11 (fun a h => absurd h (Nat.not_lt_zero a))
theorem ck_ty : ∀ c ∈ ckL, ∀ k, k < ckN c → parseFieldDescriptor (ckT c k).2.2.1 = some (ckY c k) := ck_all tyX0_ok tyX1_ok tyX2_ok tyX3_ok tyX4_ok tyX5_ok (fun a h => absurd h (Nat.not_lt_zero a)) tyX8_ok (fun a h => absurd h (Nat.not_lt_zero a)) tyX11_ok (fun a h => absurd h (Nat.not_lt_zero a))
theorem ck_lt : ∀ c ∈ ckL, c < 13 := ck_all (by decide) (by decide) (by decide) (by decide) (by decide) (by decide) (by decide) (by decide) (by decide) (by decide) (by decide)
/-- arrays by their kind: a row of a screen, a screen's rows, a letter's bytes, the keys, the counts, states, letters, lines, guesses -/
def aT (j : Nat) : FieldType := match j with
  | 0 => .byte | 1 => .array .byte | 2 => .byte | 3 => .byte | 4 => .int | 5 => .object RX4 | 6 => .object RX2 | 7 => .object RX1 | _ => .object RX8
def aL (j : Nat) : Nat := match j with
  | 0 => 24 | 1 => 8 | 2 => 1100 | 3 => 1000 | 4 => 10 | 5 => 32 | 6 => 40 | 7 => 2 | _ => 60
/-- classes, slots, array classes -/
abbrev CG : Type := (Nat → ClassId) × (Nat → Nat → Nat) × (Nat → ClassId)
def aC (g : CG) (j : Nat) : ClassId := match j with
  | 1 => g.2.2 0 | 5 => g.1 4 | 6 => g.1 2 | 7 => g.1 1 | _ => g.1 8
def coV (M : Mm) (c a k : Nat) : Value := if (ckY c k).isReference = true then rfV (mP M (100 * (c + 1) + k) a 0) else .int (mI M (100 * (c + 1) + k) a 0)
def coA (M : Mm) (j a i : Nat) : Value := if (aT j).isReference = true then rfV (mP M (20 + j) a i) else .int (mI M (20 + j) a i)
def coNest (w : Cond) : Bool := match w with
  | .fieldLinkNest _ _ _ _ _ _ => true | .methodLinkNest _ _ _ _ => true | .declares _ => true | .castable _ _ => true | _ => false
def KC (g : CG) (U : State) : Prop := (∀ c ∈ ckL, u_Kn U (ckR c) (ckT c) (ckN c) (g.1 c) (g.2.1 c)) ∧ (∀ j, j < 9 → ArrOfT U (g.2.2 j) (aT j) ∧ U.vm.findClass ("[" ++ (aT j).toString) = some (g.2.2 j)) ∧ (∀ j, j < 9 → (aT j).isReference = true → (∃ kA : Class, U.vm.classes[g.2.2 j]? = some kA ∧ kA.kind = .array (aC g j) (aT j)) ∧ (∃ kE : Class, U.vm.classes[aC g j]? = some kE) ∧ U.vm.assignable (aC g j) (aC g j) = true) ∧ (∀ w ∈ lw_tbl, coNest w = true → va_Nw w U) ∧ (va_AO RX1 U ∧ va_AO RX2 U ∧ va_AO RX4 U ∧ va_AO RX8 U)
theorem KC.warm {g : CG} {s U : State} (hW : s.WarmedH U.vm) (h : KC g s) : KC g U := by
  obtain ⟨h1, h2, h3, h4, h5⟩ := h
  have hvm := hW.alike
  refine ⟨fun c hc => u_Kn_moved hvm (h1 c hc), fun j hj => ⟨arrOfT_moved hvm (h2 j hj).1, by rw [hvm.findClass]; exact (h2 j hj).2⟩, fun j hj hr => ?_, fun w hw hn => ?_, h5.1.moved hvm, h5.2.1.moved hvm, h5.2.2.1.moved hvm, h5.2.2.2.moved hvm⟩
  · obtain ⟨⟨kA, e1, e2⟩, ⟨kE, e3⟩, e4⟩ := h3 j hj hr
    obtain ⟨kA', a1, a2⟩ := hvm.2.2 _ _ e1
    obtain ⟨kE', a3, -⟩ := hvm.2.2 _ _ e3
    exact ⟨⟨kA', a1, by rw [a2]; exact e2⟩, ⟨kE', a3⟩, by rw [hvm.assignable]; exact e4⟩
  · have hz := h4 w hw hn
    cases w <;> first | exact va_Nw.warmF hW hz | exact va_Nw.warmM hW hz | exact va_Nw.warmD hW hz | exact va_Nw.warmC hW hz | (exact absurd hn (by simp [coNest]))
theorem KC.blind {g : CG} {U : State} {f : JFrame} {mk : MethodId} {a : Array Value} (h : KC g U) : KC g (U.calling f mk a) := by
  obtain ⟨h1, h2, h3, h4, h5⟩ := h
  have hvm : U.vm.Alike (U.calling f mk a).vm := Vm.Alike.refl U.vm
  refine ⟨fun c hc => u_Kn_moved hvm (h1 c hc), fun j hj => ⟨arrOfT_moved hvm (h2 j hj).1, (h2 j hj).2⟩, h3, fun w hw hn => ?_, h5.1.moved hvm, h5.2.1.moved hvm, h5.2.2.1.moved hvm, h5.2.2.2.moved hvm⟩
  have hz := h4 w hw hn
  refine va_Nw.same ?_ (rfl : U.vm = (U.calling f mk a).vm) hz
  cases w <;> first | rfl | (exact absurd hn (by simp [coNest]))
def HC (g : CG) (AD : Nat → Prop) (M : Mm) (H : Heap) : Prop := H.size = mZ M ∧ (mK M 0 = 0 ∧ 0 < mZ M) ∧ ∀ a, mK M a ≠ 0 → AD a ∧ ((∃ c, c ∈ ckL ∧ mK M a = c + 1 ∧ t_OB a (g.1 c) (ckN c) (g.2.1 c) H (coV M c a)) ∨ (∃ j, j < 9 ∧ mK M a = 20 + j ∧ H[a]? = some (arrV (g.2.2 j) (aL j) (coA M j a))))
theorem HC.obj {g : CG} {AD : Nat → Prop} {M : Mm} {H : Heap} (h : HC g AD M H) {a c : Nat} (hc : c ∈ ckL) (hk : mK M a = c + 1) : t_OB a (g.1 c) (ckN c) (g.2.1 c) H (coV M c a) := by
  rcases (h.2.2 a (by omega)).2 with ⟨c', h1, h2, h3⟩ | ⟨j, h1, h2, h3⟩
  · have : c' = c := by omega
    subst this
    exact h3
  · have := ck_lt c hc
    omega
theorem HC.arr {g : CG} {AD : Nat → Prop} {M : Mm} {H : Heap} (h : HC g AD M H) {a j : Nat} (hj : j < 9) (hk : mK M a = 20 + j) : H[a]? = some (arrV (g.2.2 j) (aL j) (coA M j a)) := by
  rcases (h.2.2 a (by omega)).2 with ⟨c', h1, h2, h3⟩ | ⟨j', h1, h2, h3⟩
  · have := ck_lt c' h1
    omega
  · have : j' = j := by omega
    subst this
    exact h3
theorem HC.ne {g : CG} {AD : Nat → Prop} {M : Mm} {H : Heap} (h : HC g AD M H) {a : Nat} (hk : mK M a ≠ 0) : a ≠ 0 := fun e => hk (by rw [e]; exact h.2.1.1)
theorem HC.lt {g : CG} {AD : Nat → Prop} {M : Mm} {H : Heap} (h : HC g AD M H) {a : Nat} (hk : mK M a ≠ 0) : a < mZ M := by
  rw [← h.1]
  rcases (h.2.2 a hk).2 with ⟨c', h1, h2, cell, h3, -⟩ | ⟨j', h1, h2, h3⟩
  · exact (Array.getElem?_eq_some_iff.mp h3).1
  · exact (Array.getElem?_eq_some_iff.mp h3).1
/-- a cell anew: the rest as it was, where the memories agree -/
theorem HC.upd {g : CG} {AD : Nat → Prop} {M M1 : Mm} {H H1 : Heap} (h : HC g AD M H) (a : Nat) (hz : H1.size = H.size) (ho : ∀ q, q ≠ a → H1[q]? = H[q]?) (e1 : mZ M1 = mZ M) (e2 : mK M1 = mK M)
    (e3 : ∀ t q i, q ≠ a → mI M1 t q i = mI M t q i) (e4 : ∀ t q i, q ≠ a → mP M1 t q i = mP M t q i)
    (hn : (∃ c, c ∈ ckL ∧ mK M a = c + 1 ∧ t_OB a (g.1 c) (ckN c) (g.2.1 c) H1 (coV M1 c a)) ∨ (∃ j, j < 9 ∧ mK M a = 20 + j ∧ H1[a]? = some (arrV (g.2.2 j) (aL j) (coA M1 j a)))) : HC g AD M1 H1 := by
  refine ⟨by rw [hz, e1]; exact h.1, by rw [e2, e1]; exact h.2.1, fun q hq => ?_⟩
  rw [e2] at hq
  obtain ⟨k1, k2⟩ := h.2.2 q hq
  refine ⟨k1, ?_⟩
  rw [e2]
  by_cases hqa : q = a
  · subst hqa
    exact hn
  · rcases k2 with ⟨c, h1, h2, h3⟩ | ⟨j, h1, h2, h3⟩
    · refine Or.inl ⟨c, h1, h2, ?_⟩
      have e : coV M1 c q = coV M c q := by
        funext k
        simp only [coV, e3 _ q _ hqa, e4 _ q _ hqa]
      rw [e]
      exact h3.kept (ho q hqa)
    · refine Or.inr ⟨j, h1, h2, ?_⟩
      have e : coA M1 j q = coA M j q := by
        funext k
        simp only [coA, e3 _ q _ hqa, e4 _ q _ hqa]
      rw [e, ho q hqa]
      exact h3
/-- a cell more -/
theorem HC.push {g : CG} {AD : Nat → Prop} {M : Mm} {H H1 : Heap} (h : HC g AD M H) (K : Nat) (hz : H1.size = H.size + 1) (ho : ∀ q, q < H.size → H1[q]? = H[q]?) (hA : AD H.size)
    (hn : (∃ c, c ∈ ckL ∧ K = c + 1 ∧ t_OB H.size (g.1 c) (ckN c) (g.2.1 c) H1 (coV (sN M K) c H.size)) ∨ (∃ j, j < 9 ∧ K = 20 + j ∧ H1[H.size]? = some (arrV (g.2.2 j) (aL j) (coA (sN M K) j H.size)))) : HC g AD (sN M K) H1 := by
  have hM : M.1 = H.size := h.1.symm
  have h0 : 0 < M.1 := h.2.1.2
  refine ⟨by rw [hz]; show H.size + 1 = M.1 + 1; rw [hM], ⟨by show (if 0 = M.1 then K else M.2.1 0) = 0; rw [if_neg (by omega)]; exact h.2.1.1, Nat.succ_pos _⟩, fun q hq => ?_⟩
  have hq : (if q = M.1 then K else M.2.1 q) ≠ 0 := hq
  show AD q ∧ ((∃ c, c ∈ ckL ∧ (if q = M.1 then K else M.2.1 q) = c + 1 ∧ _) ∨ (∃ j, j < 9 ∧ (if q = M.1 then K else M.2.1 q) = 20 + j ∧ _))
  by_cases hqa : q = M.1
  · rw [if_pos hqa] at hq ⊢
    rw [hqa, hM]
    exact ⟨hA, hn⟩
  · rw [if_neg hqa] at hq ⊢
    obtain ⟨k1, k2⟩ := h.2.2 q hq
    have hlt : q < H.size := by rw [h.1]; exact h.lt hq
    refine ⟨k1, ?_⟩
    rcases k2 with ⟨c, h1, h2, h3⟩ | ⟨j, h1, h2, h3⟩
    · refine Or.inl ⟨c, h1, h2, ?_⟩
      have e : coV (sN M K) c q = coV M c q := by
        funext k
        simp [coV, sN, mI, mP, hqa]
      rw [e]
      exact h3.kept (ho q hlt)
    · refine Or.inr ⟨j, h1, h2, ?_⟩
      have e : coA (sN M K) j q = coA M j q := by
        funext k
        simp [coA, sN, mI, mP, hqa]
      rw [e, ho q hlt]
      exact h3
/-- what was there stays of its kind -/
def Ext (M0 M : Mm) : Prop := mZ M0 ≤ mZ M ∧ ∀ a, mK M0 a ≠ 0 → mK M a = mK M0 a
theorem Ext.rf {M : Mm} : Ext M M := ⟨Nat.le_refl _, fun _ _ => rfl⟩
theorem Ext.tr {M0 M1 M2 : Mm} (h : Ext M0 M1) (h' : Ext M1 M2) : Ext M0 M2 := ⟨Nat.le_trans h.1 h'.1, fun a ha => by rw [h'.2 a (by rw [h.2 a ha]; exact ha), h.2 a ha]⟩
theorem Ext.k {M0 M1 : Mm} (h : Ext M0 M1) {a K : Nat} (hk : mK M0 a = K) (h0 : K ≠ 0) : mK M1 a = K := by rw [h.2 a (by rw [hk]; exact h0)]; exact hk
theorem Ext.new {g : CG} {AD : Nat → Prop} {M : Mm} {H : Heap} (h : HC g AD M H) (K : Nat) : Ext M (sN M K) := ⟨Nat.le_succ _, fun a ha => by
  have : a < M.1 := h.lt ha
  show (if a = M.1 then K else M.2.1 a) = M.2.1 a
  rw [if_neg (Nat.ne_of_lt this)]⟩
theorem mK_new (M : Mm) (K : Nat) : mK (sN M K) (mZ M) = K := by simp [mK, sN, mZ]
def isPrg (k : Nat) : Prop := k = 8 ∨ k = 11 ∨ k = 12 ∨ k = 13
theorem isPrg.ne {k : Nat} (h : isPrg k) : k ≠ 0 := by rcases h with rfl | rfl | rfl | rfl <;> decide
abbrev CPc (g : CG) (AD : Nat → Prop) (M : Mm) (av : List Value) : Array Value → State → Prop := va_Pc av (fun U => KC g U ∧ HC g AD M U.heap ∧ ∀ q, U.heap.size ≤ q → AD q)
abbrev CQv (g : CG) (AD : Nat → Prop) (M0 : Mm) (post : Mm → Prop) : Array Value → State → Outcome → State → Prop := va_Qv (S := Mm) (fun u => post u) (fun u t => HC g AD u t.heap ∧ Ext M0 u) AD
abbrev CQi (g : CG) (AD : Nat → Prop) (M0 : Mm) (post : Int32 → Mm → Prop) : Array Value → State → Outcome → State → Prop := va_Qi (S := Mm) (fun r u => post r u) (fun u t => HC g AD u t.heap ∧ Ext M0 u) AD
abbrev CQr (g : CG) (AD : Nat → Prop) (M0 : Mm) (K : Nat → Prop) (post : Nat → Mm → Prop) : Array Value → State → Outcome → State → Prop := va_Qr (S := Mm) (fun _ => True) (fun u a t => HC g AD u t.heap ∧ Ext M0 u ∧ K (mK u a) ∧ post a u) AD
theorem co_blind {g : CG} {AD : Nat → Prop} {M : Mm} {av : List Value} : FrameBlind (CPc g AD M av) := fun a U f mk q => ⟨q.1, q.2.1.blind, q.2.2.1, q.2.2.2⟩
theorem co_recv {g : CG} {AD : Nat → Prop} {M : Mm} {s : State} {H : Heap} (hK : KC g s) (hH : HC g AD M H) {a c : Nat} (hc : c ∈ ckL) (hk : mK M a = c + 1) : ∃ cell : Cell, H[a]? = some cell ∧ cell.vm.isStatics = false ∧ s.vm.findClass (ckR c) = some cell.cls := by
  obtain ⟨cell, q1, q2, q3, -⟩ := hH.obj hc hk
  exact ⟨cell, q1, by rw [q3]; rfl, by rw [q2]; exact (hK.1 c hc).2.1⟩
/-- a field's link, its own or a nest mate's -/
def coLk (own : String) (index : Nat) (ref f d : String) : Prop := Cond.fieldLink own index ref f d ∈ lw_all ∨ ∃ host, Cond.fieldLinkNest own index ref f d host ∈ lw_tbl

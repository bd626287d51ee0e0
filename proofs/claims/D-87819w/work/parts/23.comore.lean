/-! words of calls through a superclass; a screen's rows made at once -/
theorem lw_U {own : String} {idx : Nat} {C owner : String} {x y : MethodName} {b : ByteArray} {L : Nat} {r : Option FieldType} (h1 : Cond.methodLink own idx x ∈ lw_all) (h2 : Cond.sameMethod x.cls owner x.name x.desc ∈ lw_all) (h3 : Cond.selects C x y ∈ lw_all) (h4 : Cond.instanceMethod y ∈ lw_all) (h5 : Cond.initialized y.cls ∈ lw_all) (h6 : Cond.code y b L r ∈ lw_all) : GoodIn lw_all (va_wsU own idx C owner x y (ws_ y b L r)) := by
  refine lw_app ?_ (lw_meth h6)
  intro w hw
  simp only [List.mem_cons, List.not_mem_nil, or_false] at hw
  rcases hw with e | e | e | e | e
  · rw [e]; exact h1
  · rw [e]; exact h2
  · rw [e]; exact h3
  · rw [e]; exact h4
  · rw [e]; exact h5
theorem lw_O {own : String} {idx : Nat} {C owner : String} {x y : MethodName} {b : ByteArray} {L : Nat} {r : Option FieldType} (h1 : Cond.methodLink own idx x ∈ lw_all) (h2 : Cond.sameMethod x.cls owner x.name x.desc ∈ lw_all) (h0 : Cond.instanceMethod ⟨owner, x.name, x.desc⟩ ∈ lw_all) (h3 : Cond.selects C x y ∈ lw_all) (h4 : Cond.instanceMethod y ∈ lw_all) (h5 : Cond.initialized y.cls ∈ lw_all) (h6 : Cond.code y b L r ∈ lw_all) : GoodIn lw_all (va_wsO own idx C owner x y (ws_ y b L r)) := by
  refine lw_app ?_ (lw_meth h6)
  intro w hw
  simp only [List.mem_cons, List.not_mem_nil, or_false] at hw
  rcases hw with e | e | e | e | e | e
  · rw [e]; exact h1
  · rw [e]; exact h2
  · rw [e]; exact h0
  · rw [e]; exact h3
  · rw [e]; exact h4
  · rw [e]; exact h5
theorem lw_SU {own : String} {idx : Nat} {y : MethodName} {b : ByteArray} {L : Nat} {r : Option FieldType} (h1 : Cond.methodLink own idx y ∈ lw_all) (h2 : Cond.sameMethod y.cls y.cls y.name y.desc ∈ lw_all) (h3 : Cond.superclass own y.cls ∈ lw_all) (h4 : Cond.instanceMethod y ∈ lw_all) (h5 : Cond.initialized y.cls ∈ lw_all) (h6 : Cond.code y b L r ∈ lw_all) : GoodIn lw_all (va_wsSU own idx y (ws_ y b L r)) := by
  refine lw_app ?_ (lw_meth h6)
  intro w hw
  simp only [List.mem_cons, List.not_mem_nil, or_false] at hw
  rcases hw with e | e | e | e | e
  · rw [e]; exact h1
  · rw [e]; exact h2
  · rw [e]; exact h3
  · rw [e]; exact h4
  · rw [e]; exact h5
theorem Ext.p {M0 M1 : Mm} (h : Ext M0 M1) {a : Nat} (hk : isPrg (mK M0 a)) : isPrg (mK M1 a) := by rw [h.2 a hk.ne]; exact hk
theorem Ext.sI {M : Mm} {t a i : Nat} {v : Int32} : Ext M (sI M t a i v) := ⟨Nat.le_refl _, fun _ _ => rfl⟩
theorem Ext.sP {M : Mm} {t a i v : Nat} : Ext M (sP M t a i v) := ⟨Nat.le_refl _, fun _ _ => rfl⟩
theorem Ext.cI {M : Mm} {t a b sp dp n : Nat} : Ext M (cI M t a b sp dp n) := ⟨Nat.le_refl _, fun _ _ => rfl⟩
theorem Ext.cP {M : Mm} {t a b sp dp n : Nat} : Ext M (cP M t a b sp dp n) := ⟨Nat.le_refl _, fun _ _ => rfl⟩
/-- eight rows of bytes, and the array that holds them -/
def sB (M : Mm) : Mm := (M.1 + 9, fun a => if a = M.1 then 21 else if M.1 < a ∧ a < M.1 + 9 then 20 else M.2.1 a, fun t a i => if M.1 ≤ a ∧ a < M.1 + 9 then 0 else M.2.2.1 t a i, fun t a i => if a = M.1 then (if i < 8 then M.1 + 1 + i else 0) else if M.1 < a ∧ a < M.1 + 9 then 0 else M.2.2.2 t a i)
theorem mK_newB (M : Mm) : mK (sB M) (mZ M) = 21 := by simp [mK, sB, mZ]
theorem Ext.newB {g : CG} {AD : Nat → Prop} {M : Mm} {H : Heap} (h : HC g AD M H) : Ext M (sB M) := ⟨Nat.le_add_right _ _, fun a ha => by
  have : a < M.1 := h.lt ha
  show (if a = M.1 then 21 else if M.1 < a ∧ a < M.1 + 9 then 20 else M.2.1 a) = M.2.1 a
  rw [if_neg (by omega), if_neg (by omega)]⟩
/-- the outer array with i rows in it; a fresh row; the state with i rows made -/
def nbO (cA : ClassId) (h i : Nat) : Cell := arrV cA 8 (fun j => if j < i then .ref (h + 1 + j) else .null)
def nbR (cB : ClassId) : Cell := arrV cB 24 (fun _ => .int 0)
def nbF (T : State) (cA cB : ClassId) : Nat → State
  | 0 => T.pushCell (nbO cA T.heap.size 0)
  | i + 1 => ((nbF T cA cB i).pushCell (nbR cB)).setCell T.heap.size (nbO cA T.heap.size (i + 1))
theorem nbO_set (cA : ClassId) (h i : Nat) : (nbO cA h i).setSlot i (.ref (h + 1 + i)) = nbO cA h (i + 1) := by
  unfold nbO
  rw [arrV_store]
  congr 1
  funext j
  by_cases hj : j = i
  · subst hj
    simp [updV]
  · by_cases hl : j < i
    · simp [updV, hj, hl, show j < i + 1 by omega]
    · simp [updV, hj, hl, show ¬ j < i + 1 by omega]
theorem nbO_size (cA : ClassId) (h i : Nat) : (nbO cA h i).slots.size = 8 := arrV_size _ _ _
theorem nbR_size (cB : ClassId) : (nbR cB).slots.size = 24 := arrV_size _ _ _
theorem nbF_is (T : State) (cA cB : ClassId) : ∀ i, (nbF T cA cB i).heap.size = T.heap.size + 1 + i ∧ (nbF T cA cB i).heap[T.heap.size]? = some (nbO cA T.heap.size i) ∧ (nbF T cA cB i).vm = T.vm ∧ (nbF T cA cB i).slotsUsed = T.slotsUsed + 8 + i * 24
  | 0 => ⟨by simp [nbF], by simp [nbF], rfl, by simp [nbF, nbO_size]⟩
  | i + 1 => by
    obtain ⟨h1, h2, h3, h4⟩ := nbF_is T cA cB i
    have hl : T.heap.size < (nbF T cA cB i).heap.size := by omega
    have hc : ((nbF T cA cB i).pushCell (nbR cB)).heap[T.heap.size]? = some (nbO cA T.heap.size i) := by rw [State.heap_pushCell_of_lt (h := hl)]; exact h2
    refine ⟨?_, State.heap_setCell_self hc, by simp [nbF, h3], ?_⟩
    · simp [nbF, State.setCell, h1]; omega
    · simp [nbF, h4, nbR_size, nbO_size, Nat.succ_mul]; omega
theorem nbF_top (T : State) (f : JFrame) (cA cB : ClassId) : ∀ i, nbF (T.setTop f) cA cB i = (nbF T cA cB i).setTop f
  | 0 => rfl
  | i + 1 => by simp only [nbF, nbF_top T f cA cB i, State.heap_setTop, State.pushCell_setTop, State.setCell_setTop]
theorem nbF_old (T : State) (cA cB : ClassId) {a : Nat} (ha : a < T.heap.size) : ∀ i, (nbF T cA cB i).heap[a]? = T.heap[a]?
  | 0 => State.heap_pushCell_of_lt _ _ ha
  | i + 1 => by
    have h1 := (nbF_is T cA cB i).1
    show (((nbF T cA cB i).pushCell (nbR cB)).setCell T.heap.size _).heap[a]? = _
    have hl : a < (nbF T cA cB i).heap.size := by omega
    rw [State.heap_setCell_other (Nat.ne_of_gt ha), State.heap_pushCell_of_lt (h := hl)]
    exact nbF_old T cA cB ha i
theorem nbF_row (T : State) (cA cB : ClassId) : ∀ i j, j < i → (nbF T cA cB i).heap[T.heap.size + 1 + j]? = some (nbR cB)
  | 0, _, h => absurd h (Nat.not_lt_zero _)
  | i + 1, j, h => by
    have h1 := (nbF_is T cA cB i).1
    show (((nbF T cA cB i).pushCell (nbR cB)).setCell T.heap.size _).heap[T.heap.size + 1 + j]? = _
    rw [State.heap_setCell_other (show T.heap.size ≠ T.heap.size + 1 + j by omega)]
    by_cases hj : j < i
    · have hl : T.heap.size + 1 + j < (nbF T cA cB i).heap.size := by omega
      rw [State.heap_pushCell_of_lt (h := hl)]
      exact nbF_row T cA cB i j hj
    · rw [show j = i by omega, ← h1]
      exact State.heap_pushCell_size _ _
section CNW
variable {E : CtlPost} {e : Env} {d : Bool} {acts : List Action} {s : State}
theorem nb_new {c comp : ClassId} {k : Class} {type : FieldType} {len : Nat} {ini : Value} (hk : s.vm.classes[c]? = some k) (hkind : k.kind = .array comp type) (hl : ¬ len > e.platform.arrayLengthLimit) (hh : ¬ len * componentBytes type > e.platform.maxHeapBytes) (hf : fits type ini = true) (hd : ini.isDefault = true) {Q : Addr → Pre}
    (h1 : s.heap.size < e.platform.maxCells) (h2 : s.slotsUsed + len ≤ e.platform.maxSlots) (hq : Q s.heap.size d acts (s.pushCell (arrV c len (fun _ => ini)))) : wp (Jvm.newArray c len ini) Q E e d acts s := by
  have hfit : ∀ i v, (Array.replicate len ini)[i]? = some v → s.fitsSlot c .none i v = true := by
    intro i v hv
    simp only [Array.getElem?_replicate] at hv
    split at hv
    · cases hv
      simp [State.fitsSlot, State.slotType?, hk, hkind, hf]
    · cases hv
  have hact : allocActs (Array.replicate len ini) s.heap.size acts = acts := by
    unfold allocActs
    rw [if_pos (by rw [Array.all_replicate]; split <;> simp [hd])]
  rw [← arrV_new] at hq
  simp only [Jvm.newArray, Jvm.arrayFits, wp_bind', W.ask, W.ite, hl, if_false, wp_pure', W.theClass, hk, hkind, hh, W.alloc, W.stop, Option.some.injEq, exists_eq_left', Array.size_replicate, hact]
  rw [if_neg (by omega)]
  exact ⟨h1, h2, hfit, hq⟩
theorem nb_make1 {cB cE : ClassId} {kB : Class} (hk : s.vm.classes[cB]? = some kB) (hkind : kB.kind = .array cE .byte) (hl : ¬ 24 > e.platform.arrayLengthLimit) (hh : ¬ 24 * componentBytes .byte > e.platform.maxHeapBytes) (h1 : s.heap.size < e.platform.maxCells) (h2 : s.slotsUsed + 24 ≤ e.platform.maxSlots) {Q : Addr → Pre} (hq : Q s.heap.size d acts (s.pushCell (nbR cB))) :
    wp (multianewarray.make cB [24]) Q E e d acts s := by
  rw [multianewarray.make]
  simp only [wp_bind', W.ite, show ¬ (24 : Int32) < 0 by decide, if_false, wp_pure', W.theClass, hk, hkind, Option.some.injEq, exists_eq_left']
  exact nb_new (len := 24) hk hkind hl hh rfl rfl h1 h2 hq
theorem nb_make2 {cA cB cE : ClassId} {kA kB : Class} (hkA : s.vm.classes[cA]? = some kA) (hkindA : kA.kind = .array cB (.array .byte)) (hkB : s.vm.classes[cB]? = some kB) (hkindB : kB.kind = .array cE .byte)
    (hl1 : ¬ 8 > e.platform.arrayLengthLimit) (hh1 : ¬ 8 * componentBytes (.array .byte) > e.platform.maxHeapBytes) (hl2 : ¬ 24 > e.platform.arrayLengthLimit) (hh2 : ¬ 24 * componentBytes .byte > e.platform.maxHeapBytes)
    (h1 : s.heap.size + 9 ≤ e.platform.maxCells) (h2 : s.slotsUsed + 200 ≤ e.platform.maxSlots) {Q : Addr → Pre} (hq : ∀ d' acts', Q s.heap.size d' acts' (nbF s cA cB 8)) : wp (multianewarray.make cA [8, 24]) Q E e d acts s := by
  rw [multianewarray.make]
  simp only [wp_bind', W.ite, show ¬ (8 : Int32) < 0 by decide, if_false, wp_pure', W.theClass, hkA, hkindA, Option.some.injEq, exists_eq_left']
  refine nb_new (len := 8) hkA hkindA hl1 hh1 rfl rfl (by omega) (by omega) ?_
  have hnone : ([(24 : Int32)].find? (· < 0)) = none := by decide
  simp only [hnone]
  rw [ite_self, wp_bind', Std.Legacy.Range.forIn_eq_forIn_range']
  show wp (forIn (List.range' 0 8 1) PUnit.unit _) _ E e d acts _
  have e0 : s.pushCell (arrV cA 8 (fun _ => .null)) = nbF s cA cB 0 := by
    unfold nbF nbO
    refine congrArg s.pushCell (congrArg (arrV cA 8) (funext fun j => ?_))
    simp
  rw [e0]
  refine wp_forIn_inv (fun rest s' => ∃ i, i ≤ 8 ∧ rest = List.range' i (8 - i) ∧ s' = nbF s cA cB i) _ _ ⟨0, by omega, rfl, rfl⟩ ?_ ?_
  · rintro x rest s' d' acts' Q' ⟨i, hi, hl, rfl⟩ hnext
    have hlt : i < 8 := by
      rcases Nat.lt_or_ge i 8 with h | h
      · exact h
      · rw [show 8 - i = 0 by omega] at hl
        simp at hl
    rw [show 8 - i = (8 - (i + 1)) + 1 by omega, List.range'_succ] at hl
    obtain ⟨hx, hrest⟩ := List.cons.inj hl
    subst hx
    obtain ⟨f1, f2, f3, f4⟩ := nbF_is s cA cB x
    have hm : x * 24 + 24 ≤ 192 := by omega
    simp only [wp_bind']
    refine nb_make1 (by rw [f3]; exact hkB) hkindB hl2 hh2 (by rw [f1]; omega) (by rw [f4]; omega) ?_
    have hl0 : s.heap.size < (nbF s cA cB x).heap.size := by rw [f1]; omega
    simp only [wp_bind', W.writeLoc, wp_pure']
    refine ⟨nbO cA s.heap.size x, by rw [State.heap_pushCell_of_lt (h := hl0)]; exact f2, by simp [nbO, arrV], by rw [nbO_size]; exact hlt, ?_, hnext _ _ _ ⟨x + 1, hlt, hrest, ?_⟩⟩
    · simp [nbO, arrV, State.fitsSlot, State.slotType?, f3, hkA, hkindA, fits]
    · rw [f1, nbO_set]
      rfl
  · rintro s' d' acts' ⟨i, hi, hl, rfl⟩
    have hi8 : i = 8 := by
      rcases Nat.lt_or_ge i 8 with h | h
      · rw [show 8 - i = (8 - (i + 1)) + 1 by omega, List.range'_succ] at hl
        cases hl
      · omega
    subst hi8
    simp only [wp_pure']
    exact hq _ _
end CNW
theorem nb_HC {g : CG} {AD : Nat → Prop} {M : Mm} {H H1 : Heap} {z : Nat} (hH : HC g AD M H) (hM : M.1 = z) (f1 : H1.size = z + 9) (f2 : H1[z]? = some (nbO (g.2.2 1) z 8)) (f3 : ∀ a : Nat, a < z → H1[a]? = H[a]?) (f4 : ∀ j : Nat, j < 8 → H1[z + 1 + j]? = some (nbR (g.2.2 0))) (hAq : ∀ q, z ≤ q → AD q) : HC g AD (sB M) H1 := by
  subst hM
  have h0 : 0 < M.1 := hH.2.1.2
  refine ⟨f1, ⟨?_, Nat.succ_pos _⟩, fun a ha => ?_⟩
  · show (if 0 = M.1 then 21 else if M.1 < 0 ∧ 0 < M.1 + 9 then 20 else M.2.1 0) = 0
    rw [if_neg (by omega), if_neg (by omega)]
    exact hH.2.1.1
  · have ha : (if a = M.1 then 21 else if M.1 < a ∧ a < M.1 + 9 then 20 else M.2.1 a) ≠ 0 := ha
    show AD a ∧ ((∃ c, c ∈ ckL ∧ (if a = M.1 then 21 else if M.1 < a ∧ a < M.1 + 9 then 20 else M.2.1 a) = c + 1 ∧ _) ∨ (∃ j, j < 9 ∧ (if a = M.1 then 21 else if M.1 < a ∧ a < M.1 + 9 then 20 else M.2.1 a) = 20 + j ∧ _))
    by_cases h1 : a = M.1
    · rw [if_pos h1]
      subst h1
      refine ⟨hAq _ (Nat.le_refl _), Or.inr ⟨1, by decide, rfl, ?_⟩⟩
      rw [f2]
      refine congrArg some (congrArg (arrV (g.2.2 1) 8) (funext fun j => ?_))
      by_cases hj : j < 8
      · simp only [coA, aT, FieldType.isReference, mP, sB, if_true, if_pos hj]
        rw [rfV_ne (by omega)]
      · simp only [coA, aT, FieldType.isReference, mP, sB, if_true, if_neg hj]
        rfl
    · by_cases h2 : M.1 < a ∧ a < M.1 + 9
      · rw [if_neg h1, if_pos h2]
        refine ⟨hAq a (by omega), Or.inr ⟨0, by decide, rfl, ?_⟩⟩
        have hr := f4 (a - M.1 - 1) (by omega)
        rw [show M.1 + 1 + (a - M.1 - 1) = a by omega] at hr
        rw [hr]
        refine congrArg some (congrArg (arrV (g.2.2 0) 24) (funext fun j => ?_))
        have h3 : M.1 ≤ a ∧ a < M.1 + 9 := by omega
        simp only [coA, aT, FieldType.isReference, mI, sB, if_pos h3]
        rfl
      · rw [if_neg h1, if_neg h2] at ha ⊢
        obtain ⟨k1, k2⟩ := hH.2.2 a ha
        have hlt : a < M.1 := hH.lt ha
        have h3 : ¬ (M.1 ≤ a ∧ a < M.1 + 9) := by omega
        refine ⟨k1, ?_⟩
        rcases k2 with ⟨c, q1, q2, q3⟩ | ⟨j, q1, q2, q3⟩
        · refine Or.inl ⟨c, q1, q2, ?_⟩
          have e1 : coV (sB M) c a = coV M c a := by
            funext k
            simp only [coV, sB, mI, mP, if_neg h1, if_neg h2, if_neg h3]
          rw [e1]
          exact q3.kept (f3 a (by omega))
        · refine Or.inr ⟨j, q1, q2, ?_⟩
          have e1 : coA (sB M) j a = coA M j a := by
            funext k
            simp only [coA, sB, mI, mP, if_neg h1, if_neg h2, if_neg h3]
          rw [e1, f3 a (by omega)]
          exact q3
section CNB
variable {p : Program} {l : Launch} {e : Env} {R : Room} {s : State} {m : MethodId} {args : Array Value} {below : List Frame} {meth : Method} {c : Code} {H : Heap} {locs : List Loc} {cells slots : Nat} {Q : State → Prop}
theorem nb_stand {T : State} (X : Stand p l e R s m args below meth c T locs cells slots) (cA cB : ClassId) : ∀ i, Stand p l e R s m args below meth c (nbF T cA cB i) (locs ++ (List.range i).map fun j => ⟨T.heap.size, j⟩) (cells + 1 + i) (slots + 8 + i * 24)
  | 0 => by
    have h := X.pushed (nbO cA T.heap.size 0)
    rw [nbO_size] at h
    simpa [nbF] using h
  | i + 1 => by
    have Xi := nb_stand X cA cB i
    obtain ⟨h1, h2, h3, h4⟩ := nbF_is T cA cB i
    have hl : T.heap.size < (nbF T cA cB i).heap.size := by omega
    have hc : ((nbF T cA cB i).pushCell (nbR cB)).heap[T.heap.size]? = some (nbO cA T.heap.size i) := by rw [State.heap_pushCell_of_lt (h := hl)]; exact h2
    have h := (Xi.pushed (nbR cB)).stored hc i (.ref (T.heap.size + 1 + i))
    rw [nbR_size, nbO_set] at h
    rw [show (locs ++ (List.range (i + 1)).map fun j => (⟨T.heap.size, j⟩ : Loc)) = (locs ++ (List.range i).map fun j => (⟨T.heap.size, j⟩ : Loc)) ++ [⟨T.heap.size, i⟩] by simp [List.range_succ, List.append_assoc], show slots + 8 + (i + 1) * 24 = slots + 8 + i * 24 + 24 by omega]
    exact h
variable {cc : ByteArray} {nL pc : Nat} {ls : Array Slot} {rest : List Value} {own : String} {g : CG} {AD : Nat → Prop} {M : Mm}
theorem co_newB (S : CallFix p m c cc nL s args lw_all own) (hK : KC g s) (hH : HC g AD M H) (hS : va_S AD s.heap H locs) (hA : ∀ q, s.heap.size ≤ q → AD q) {index : Nat} (hcl : Cond.classLink own index "[[B" ∈ lw_all) (hcells : cells + 9 ≤ R.cells) (hslots : slots + 200 ≤ R.slots) (hdg : decode cc pc = .ok (.multianewarray index 2, 4))
    (kk : ∀ (H1 : Heap) (locs1 : List Loc), HC g AD (sB M) H1 → va_S AD s.heap H1 locs1 → W p l e R s m args below meth c H1 locs1 (cells + 9) (slots + 200) Q (F0 m (pc + 4) ls (.ref (mZ M) :: rest))) : W p l e R s m args below meth c H locs cells slots Q (F0 m pc ls (.int 24 :: .int 8 :: rest)) := by
  obtain ⟨hx, hb, -, hown, hts⟩ := S
  intro T hT X
  have hpl : e.platform.magicAccessors = ({} : Platform).magicAccessors := by rw [X.admits.platform]
  obtain ⟨⟨kA, a1, a2⟩, -, -⟩ := hK.2.2.1 1 (by decide) rfl
  obtain ⟨-, kB, b1, cE, b2⟩ := (hK.2.1 0 (by decide)).1 24 (fun _ => .int 0)
  obtain ⟨c0, hfc0, hlk⟩ := Cond.classLink_spec hown (hts _ hcl) e.platform hpl
  have hc0 : c0 = g.2.2 1 := Option.some.inj (hfc0.symm.trans (hK.2.1 1 (by decide)).2)
  subst hc0
  obtain ⟨hg₁, hwarm₁, hready₁⟩ := State.classEntry (e := e) X.warmed hlk
  generalize T.vm.noted m.cls index (.cls (g.2.2 1)) = vm₁ at hg₁ hwarm₁ hready₁
  have hal : s.vm.Alike vm₁ := hwarm₁.alike
  obtain ⟨kA₁, hkA₁, heA⟩ := hal.2.2 _ _ a1
  obtain ⟨kB₁, hkB₁, heB⟩ := hal.2.2 _ _ b1
  have hkindA₁ : kA₁.kind = .array (g.2.2 0) (.array .byte) := by rw [heA]; exact a2
  have hkindB₁ : kB₁.kind = .array cE .byte := by rw [heB]; exact b2
  have X₁ := X.noted hwarm₁
  obtain ⟨hr1, hr2⟩ := X.roomAbove hcells hslots
  have XF := nb_stand X₁ (g.2.2 1) (g.2.2 0) 8
  have hz : T.heap.size = mZ M := by rw [hT]; exact hH.1
  have hM : M.1 = T.heap.size := hz.symm
  obtain ⟨f1, f2, -, -⟩ := nbF_is (T.setVm vm₁) (g.2.2 1) (g.2.2 0) 8
  have f1 : (nbF (T.setVm vm₁) (g.2.2 1) (g.2.2 0) 8).heap.size = T.heap.size + 9 := f1
  have f2 : (nbF (T.setVm vm₁) (g.2.2 1) (g.2.2 0) 8).heap[T.heap.size]? = some (nbO (g.2.2 1) T.heap.size 8) := f2
  have f3 : ∀ a : Nat, a < T.heap.size → (nbF (T.setVm vm₁) (g.2.2 1) (g.2.2 0) 8).heap[a]? = H[a]? := fun a ha => by rw [← hT]; exact nbF_old (T.setVm vm₁) _ _ ha 8
  have f4 : ∀ j : Nat, j < 8 → (nbF (T.setVm vm₁) (g.2.2 1) (g.2.2 0) 8).heap[T.heap.size + 1 + j]? = some (nbR (g.2.2 0)) := fun j hj => nbF_row (T.setVm vm₁) _ _ 8 j hj
  obtain ⟨t, t1, t2⟩ := kk (nbF (T.setVm vm₁) (g.2.2 1) (g.2.2 0) 8).heap (locs ++ (List.range 8).map fun j => ⟨T.heap.size, j⟩) (nb_HC hH hM f1 f2 f3 f4 (fun q hq => hA q (Nat.le_trans hS.1 (by rw [← hT]; exact hq)))) ⟨Nat.le_trans hS.1 (by rw [f1, hT]; omega), fun q g1 g2 => by
        have hq : q < T.heap.size := by rw [hT]; exact Nat.lt_of_lt_of_le g1 hS.1
        rw [f3 q hq]
        exact hS.2.1 q g1 g2, fun q hq => by
        rcases List.mem_append.mp hq with h | h
        · exact hS.2.2 q h
        · obtain ⟨z, -, rfl⟩ := List.mem_map.mp h
          exact hA _ (by show s.heap.size ≤ T.heap.size; rw [hT]; exact hS.1)⟩ _ rfl XF
  rw [← hz] at t1
  refine ⟨t, ?_, t2⟩
  jvm_step X.here [hx, hb, hdg]
  simp only [multianewarray.sem, wp_bind', W.resolveClassAt_links (State.method?_setTop (F0 m pc ls (.int 24 :: .int 8 :: rest)) X.here.top) hg₁]
  rw [W.popN, if_neg (by decide)]
  refine ⟨F0 m pc ls (.int 24 :: .int 8 :: rest), State.topJava?_setTop' (s := T.setVm vm₁) _ X.here.top, [.int 8, .int 24], rest, rfl, rfl, ?_⟩
  simp only [List.mapM_cons, List.mapM_nil, wp_bind', wp_pure']
  refine nb_make2 (kA := kA₁) (kB := kB₁) (cE := cE) hkA₁ hkindA₁ hkB₁ hkindB₁ (by rw [Launch.admits_arrayLengthLimit X.admits]; decide) (by rw [Launch.admits_maxHeapBytes X.admits]; decide) (by rw [Launch.admits_arrayLengthLimit X.admits]; decide) (by rw [Launch.admits_maxHeapBytes X.admits]; decide) (by show T.heap.size + 9 ≤ _; omega) (by show T.slotsUsed + 200 ≤ _; omega) (fun d' acts' => ?_)
  have eS : ((T.setTop (F0 m pc ls (.int 24 :: .int 8 :: rest))).setVm vm₁).setTop (F0 m pc ls rest) = (T.setVm vm₁).setTop (F0 m pc ls rest) := by
    show ((T.setVm vm₁).setTop _).setTop _ = _
    rw [State.setTop_setTop]
  have eS' : nbF (((T.setTop (F0 m pc ls (.int 24 :: .int 8 :: rest))).setVm vm₁).setTop (F0 m pc ls rest)) (g.2.2 1) (g.2.2 0) 8 = (nbF (T.setVm vm₁) (g.2.2 1) (g.2.2 0) 8).setTop (F0 m pc ls rest) := by rw [eS, nbF_top]
  rw [eS']
  simp only [wp_bind', W.mark, W.pushRef, State.topJava?_setTop' _ XF.here.top, Option.some.injEq, exists_eq_left', State.setTop_setTop, State.heap_setTop]
  intro acts
  simp [jvm, XF.here.top]
  exact t1
end CNB

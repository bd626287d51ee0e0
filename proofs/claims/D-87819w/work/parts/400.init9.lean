/-! the reference's constructor: its arrays come one behind the other -/
def mo_ix (k : Nat) : Nat := match k with
  | 0 => 0 | 1 => 1 | 2 => 2 | 3 => 3 | 4 => 4 | 5 => 5 | 20 => 6 | 29 => 7 | 30 => 8 | 31 => 9 | 32 => 10 | 33 => 11 | 40 => 12 | 41 => 13 | 42 => 14 | 43 => 15 | 44 => 16 | _ => 17
theorem mo_isA_in {k : Nat} (h : mo_isA k = true) : k ∈ [0, 1, 2, 3, 4, 5, 20, 29, 30, 31, 32, 33, 40, 41, 42, 43, 44, 45] := by
  unfold mo_isA at h
  split at h <;> first | decide | cases h
theorem mo_ix_inj : ∀ j ∈ [0, 1, 2, 3, 4, 5, 20, 29, 30, 31, 32, 33, 40, 41, 42, 43, 44, 45], ∀ k ∈ [0, 1, 2, 3, 4, 5, 20, 29, 30, 31, 32, 33, 40, 41, 42, 43, 44, 45], mo_ix j = mo_ix k → j = k := by decide
theorem mo_ix_lt {k : Nat} (h : mo_isA k = true) : mo_ix k < 18 := by
  have : ∀ j ∈ [0, 1, 2, 3, 4, 5, 20, 29, 30, 31, 32, 33, 40, 41, 42, 43, 44, 45], mo_ix j < 18 := by decide
  exact this k (mo_isA_in h)
theorem mo_isA_lt {k : Nat} (h : mo_isA k = true) : k < 46 := by
  have : ∀ j ∈ [0, 1, 2, 3, 4, 5, 20, 29, 30, 31, 32, 33, 40, 41, 42, 43, 44, 45], j < 46 := by decide
  exact this k (mo_isA_in h)
def mg (cC : ClassId) (iS : Nat → Nat) (cA : ClassId) (h sz : Nat) : MG := (cC, iS, cA, h, fun k => sz + mo_ix k)
theorem mg_apart {cC : ClassId} {iS : Nat → Nat} {cA : ClassId} {h sz : Nat} (hh : h < sz) : HI (mg cC iS cA h sz) := by
  refine ⟨fun k _ => ?_, fun j k hj hk e => ?_⟩
  · show sz + mo_ix k ≠ h
    omega
  · have e : sz + mo_ix j = sz + mo_ix k := e
    exact mo_ix_inj j (mo_isA_in hj) k (mo_isA_in hk) (by omega)
theorem mg_wide {cC : ClassId} {iS : Nat → Nat} {cA : ClassId} {h sz : Nat} {H0 H : Heap} {locs : List Loc} (hS : va_S (HA (mg cC iS cA h sz)) H0 H locs) : va_S (fun q => q = h ∨ sz ≤ q) H0 H locs := by
  have key : ∀ q, HA (mg cC iS cA h sz) q → q = h ∨ sz ≤ q := by
    intro q hq
    rcases hq with e | ⟨k, -, e⟩
    · exact Or.inl e
    · right
      rw [e]
      show sz ≤ sz + mo_ix k
      omega
  exact ⟨hS.1, fun q h1 h2 => hS.2.1 q h1 (fun e => h2 (key q e)), fun q hq => key _ (hS.2.2 q hq)⟩
def mp_fv (sz n : Nat) (V : VV) (k : Nat) : Value := if mo_isA k = true then (if mo_ix k < n then .ref (sz + mo_ix k) else .null) else .int (V k)
/-- n arrays made -/
def HP (cC : ClassId) (iS : Nat → Nat) (cA : ClassId) (h sz n : Nat) (V : VV) (H : Heap) : Prop := t_OB h cC 46 iS H (mp_fv sz n V) ∧ H.size = sz + n ∧ ∀ k, mo_isA k = true → mo_ix k < n → H[sz + mo_ix k]? = some (arrV cA (mo_len k) (fun _ => .int 0))
def mp_A (cA : ClassId) (U : State) : Prop := ArrOfT U cA .int ∧ U.vm.findClass ("[" ++ FieldType.int.toString) = some cA
def mp_U (cC : ClassId) (iS : Nat → Nat) (cA : ClassId) (h sz : Nat) (U : State) : Prop := U.heap.size = sz ∧ u_Kn U RX9 TX9 46 cC iS ∧ mp_A cA U ∧ t_OB h cC 46 iS U.heap (fun k => defaultValue (tyX9 k))
theorem mp_dv : ∀ k, k < 46 → defaultValue (tyX9 k) = (if mo_isA k = true then Value.null else .int 0) := by decide
theorem HP.zero {cC : ClassId} {iS : Nat → Nat} {cA : ClassId} {h sz : Nat} {H : Heap} (hob : t_OB h cC 46 iS H (fun k => defaultValue (tyX9 k))) (hsz : H.size = sz) : HP cC iS cA h sz 0 (fun _ => 0) H :=
  ⟨hob.to (fun k hk => by rw [mp_dv k hk]; simp [mp_fv]), by omega, fun k _ h => absurd h (Nat.not_lt_zero _)⟩
theorem HP.full {cC : ClassId} {iS : Nat → Nat} {cA : ClassId} {h sz : Nat} {V : VV} {H : Heap} {U : State} (hP : HP cC iS cA h sz 18 V H) (_ : ArrOfT U cA .int) : HM (mg cC iS cA h sz) V (fun _ _ => 0) H :=
  ⟨hP.1.to (fun k _ => by
    by_cases hk : mo_isA k = true
    · simp only [mp_fv, mo_fv, if_pos hk, if_pos (mo_ix_lt hk)]
      rfl
    · simp only [mp_fv, mo_fv, if_neg hk]), fun k hk => hP.2.2 k hk (mo_ix_lt hk)⟩
section MPW
variable {p : Program} {l : Launch} {e : Env} {R : Room} {s : State} {m : MethodId} {args : Array Value} {below : List Frame} {meth : Method} {c : Code} {H : Heap} {locs : List Loc} {cells slots : Nat} {Q : State → Prop}
variable {cc : ByteArray} {nL pc : Nat} {ls : Array Slot} {rest : List Value} {cC : ClassId} {iS : Nat → Nat} {cA : ClassId} {h sz n : Nat} {V : VV}
theorem mp_apart (hts : ∀ w ∈ lw_all, w.before args s = true) (hK : u_Kn s RX9 TX9 46 cC iS) : ∀ x y, x < 46 → y < 46 → x ≠ y → iS x ≠ iS y := by
  intro x y hx hy hne
  obtain ⟨hS, -⟩ := hK
  obtain ⟨_, _, _, fa, hia, ea⟩ := hS x hx
  obtain ⟨_, _, _, fb, hib, eb⟩ := hS y hy
  rw [← ea, ← eb]
  refine u_apart (u_lays hts in_X9 hx) (u_lays hts in_X9 hy) hia hib ?_
  rw [(State.fieldFound?_type hia (tyX9_ok x hx)).1, (State.fieldFound?_type hib (tyX9_ok y hy)).1]
  exact nmX9 x hx y hy hne
theorem mp_put (S : CallFix p m c cc nL s args lw_all RX9) (hK : u_Kn s RX9 TX9 46 cC iS) (hP : HP cC iS cA h sz n V H) (hS0 : va_S (fun q => q = h) s.heap H locs) (hh : h < sz) (_ : s.heap.size = sz) (k : Nat) (hk : k < 46 ∧ mo_isA k = false) {index : Nat} (hlink : Cond.fieldLink RX9 index RX9 (TX9 k).2.1 (TX9 k).2.2.1 ∈ lw_all) (hdg : decode cc pc = .ok (.putfield index, 3))
    (hsame : (TX9 k).1 = RX9) (hfin : (TX9 k).2.2.2 = false) {v : Int32} (hn : narrow (tyX9 k) (.int v) = .int v ∧ fits (tyX9 k) (.int v) = true)
    (kk : ∀ (H1 : Heap) (locs1 : List Loc), HP cC iS cA h sz n (vu V k v) H1 → va_S (fun q => q = h) s.heap H1 locs1 → W p l e R s m args below meth c H1 locs1 cells slots Q (F0 m (pc + 3) ls rest)) : W p l e R s m args below meth c H locs cells slots Q (F0 m pc ls (.int v :: .ref h :: rest)) := by
  obtain ⟨hx, hb, -, hown, hts⟩ := S
  have hap := mp_apart hts hK
  obtain ⟨⟨cell, q1, q2, q3, q4⟩, hz, hA⟩ := hP
  obtain ⟨hS, hfc, kC, hkC, hkind⟩ := hK
  obtain ⟨cf, kf, fi, f, hi, hsl⟩ := hS k hk.1
  have hlay := hts _ (in_X9 _ (u_in_lay hk.1))
  unfold u_lay at hlay
  rw [if_neg (by rw [hfin]; decide)] at hlay
  have hst := (u_facts hfc hkC (u_lays hts in_X9 hk.1) hi).1
  have h6 := u_store hfc hkC hkind hlay hi (tyX9_ok k hk.1) hn.1 hn.2
  refine W.putK hx hb (f := f) ⟨hown, hts _ hlink, ⟨_, _, _, by rw [hsame] at hi; exact hi⟩, hst⟩ (by rw [q2]; exact h6) q1 q3 (by rw [hsl]; exact k2_hasslot (q4 k hk.1)) rfl rfl hdg fun H' e1 e2 e3 => ?_
  rw [hsl] at e1 ⊢
  refine kk H' _ ⟨t_OB.to (V := updV (mp_fv sz n V) k (.int v)) ⟨_, e1, q2, q3, t_set q4 hap hk.1 (.int v)⟩ (fun j _ => ?_), by rw [e2]; exact hz, fun j hj hl => ?_⟩ (hS0.put e2 e3 rfl)
  · by_cases hjk : j = k
    · subst hjk
      simp [updV, mp_fv, vu, hk.2]
    · simp [updV, mp_fv, vu, hjk]
  · rw [e3 _ (show sz + mo_ix j ≠ h by omega)]
    exact hA j hj hl
theorem mp_new (S : CallFix p m c cc nL s args lw_all RX9) (hin : meth.name = "<init>") (hK : u_Kn s RX9 TX9 46 cC iS) (hKA : mp_A cA s) (hP : HP cC iS cA h sz n V H) (hS0 : va_S (fun q => q = h) s.heap H locs) (hh : h < sz) (_ : s.heap.size = sz) (k : Nat) (hk : k < 46 ∧ mo_isA k = true ∧ mo_ix k = n ∧ (TX9 k).1 = RX9 ∧ (TX9 k).2.2.2 = true) {index : Nat} (hlink : Cond.fieldLink RX9 index RX9 (TX9 k).2.1 (TX9 k).2.2.1 ∈ lw_all) {len : Int32} (hlen : ¬ len < 0 ∧ len.toNatClampNeg = mo_len k ∧ mo_len k * 4 ≤ 536870912) (hcells : cells + 1 ≤ R.cells) (hslots : slots + mo_len k ≤ R.slots)
    (hd1 : decode cc pc = .ok (.newarray .int, 2)) (hd2 : decode cc (pc + 2) = .ok (.putfield index, 3))
    (kk : ∀ (H1 : Heap) (locs1 : List Loc), HP cC iS cA h sz (n + 1) V H1 → va_S (fun q => q = h) s.heap H1 locs1 → W p l e R s m args below meth c H1 locs1 (cells + 1) (slots + mo_len k) Q (F0 m (pc + 2 + 3) ls rest)) : W p l e R s m args below meth c H locs cells slots Q (F0 m pc ls (.int len :: .ref h :: rest)) := by
  obtain ⟨hx, hb, -, hown, hts⟩ := S
  obtain ⟨k1, k2, k3, k4, k5⟩ := hk
  have hap := mp_apart hts hK
  obtain ⟨hob, hz, hA⟩ := hP
  refine va_newaK (atype := .int) hx hb (hts _ q106) rfl hd1 rfl hlen.1 hlen.2.1 hlen.2.2 hcells hslots rfl fun H1 cA' e1 z1 o1 hAr hNm => ?_
  have hcA : cA' = cA := Option.some.inj (hNm.symm.trans hKA.2)
  subst hcA
  have hhl : h < H.size := by omega
  have hob1 := hob.kept (o1 h hhl)
  obtain ⟨cell, q1, q2, q3, q4⟩ := hob1
  obtain ⟨hS, hfc, kC, hkC, hkind⟩ := hK
  obtain ⟨cf, kf, fi, f, hi, hsl⟩ := hS k k1
  have hlay := hts _ (in_X9 _ (u_in_lay k1))
  unfold u_lay at hlay
  rw [if_pos k5] at hlay
  have hst := (u_facts hfc hkC (u_lays hts in_X9 k1) hi).1
  have hcf : m.cls = cf := by
    obtain ⟨_, _, c', _, _, _, -, -, hf', -, -, -, hown2, -⟩ := Cond.laysFinal_spec hlay
    have e1 : c' = cf := by have := hi.symm.trans hf'; simp at this; exact this.1.symm
    rw [k4] at hown2
    rw [← e1]; exact Option.some.inj (hown.symm.trans hown2)
  have hty : tyX9 k = .array .int := by
    have : ∀ j, j < 46 → mo_isA j = true → tyX9 j = .array .int := by decide
    exact this k k1 k2
  have h6 := u_fits (v := .ref H.size) hfc hkC hkind (Or.inr hlay) hi (tyX9_ok k k1) (by rw [hty]; rfl) (by rw [hty]; rfl)
  have hS1 : va_S (fun q => q = h) s.heap H1 locs := ⟨Nat.le_trans hS0.1 (by omega), fun x g1 g2 => (o1 x (Nat.lt_of_lt_of_le g1 hS0.1)).trans (hS0.2.1 x g1 g2), hS0.2.2⟩
  refine W.putFinK hx hb hown (hts _ hlink) (by rw [k4] at hi; exact hi) hst hcf hin (by rw [q2]; exact h6) q1 q3 (by rw [hsl]; exact k2_hasslot (q4 k k1)) rfl rfl hd2 fun H' u1 u2 u3 => ?_
  rw [hsl] at u1 ⊢
  refine kk H' _ ⟨t_OB.to (V := updV (mp_fv sz n V) k (.ref H.size)) ⟨_, u1, q2, q3, t_set q4 hap k1 (.ref H.size)⟩ (fun j _ => ?_), by omega, fun j hj hl => ?_⟩ (hS1.put u2 u3 rfl)
  · by_cases hjk : j = k
    · subst hjk
      simp only [updV, mp_fv, if_pos k2, if_true, k3, if_pos (Nat.lt_succ_self n)]
      rw [hz]
    · simp only [updV, if_neg hjk, mp_fv]
      by_cases hj : mo_isA j = true
      · simp only [if_pos hj]
        have hne : mo_ix j ≠ n := fun e => hjk (mo_ix_inj j (mo_isA_in hj) k (mo_isA_in k2) (by omega))
        by_cases hl : mo_ix j < n
        · rw [if_pos hl, if_pos (by omega)]
        · rw [if_neg hl, if_neg (by omega)]
      · simp only [if_neg hj]
  · rw [u3 _ (show sz + mo_ix j ≠ h by omega)]
    by_cases hjk : j = k
    · subst hjk
      rw [k3, ← hz, e1]
      rfl
    · have hne : mo_ix j ≠ n := fun e => hjk (mo_ix_inj j (mo_isA_in hj) k (mo_isA_in k2) (by omega))
      rw [o1 _ (by omega)]
      exact hA j hj (by omega)
end MPW
abbrev rm9_init : Room := { frames := 2, cells := 18, slots := 117324, locals := 48 }
/-- what the constructor owes: begins(0, 2, 5) over zeros -/
def w9_init (post : VV → AA → Prop) : Prop := w9_begins post (vu (vu (fun _ => 0) 9 2) 10 5) (fun _ _ => 0) 0 2 5
set_option maxHeartbeats 4000000 in
set_option maxRecDepth 100000 in
theorem m9_init (l : Launch) (cC : ClassId) (iS : Nat → Nat) (cA : ClassId) (h sz : Nat) (post : VV → AA → Prop) (hh : h < sz) (hw : w9_init post) : Met l yX9_init (ws_ yX9_init cX9_init 1 none) rm9_init (va_Pc [.ref h] (mp_U cC iS cA h sz)) (va_Qv (S := VV × AA) (fun u => post u.1 u.2) (fun u t => HM (mg cC iS cA h sz) u.1 u.2 t.heap) (fun q => q = h ∨ sz ≤ q)) 18 117324 (fun q => q = h ∨ sz ≤ q) := by
  refine Met.ofW (cc := cX9_init) (maxL := 1) (ret := none) (by decide) rfl ?_
  intro p e s m args below meth c s₁ B hml hv
  obtain ⟨rfl, hsz, hK, hKA, hob⟩ := hv
  have hx := B.exec
  have hb := B.bytes
  have hr : meth.sig.returnType = none := B.returns
  have hts := atoms_spec (ws := ws_ yX9_init cX9_init 1 none) B.pre
  have hts : ∀ w ∈ lw_all, w.before _ s = true := fun w h => hts w (List.mem_cons_of_mem _ h)
  have hown : s.vm.findClass RX9 = some m.cls := findClass_of_methodNamed B.named
  have hlocks : meth.locks = false := B.notSynchronized
  have hin : meth.name = "<init>" := (name_of_methodNamed B.named B.method).1
  have S : CallFix p m c cX9_init 1 s _ lw_all RX9 := ⟨hx, hb, hml, hown, hts⟩
  have hS : va_S (fun q => q = h) s.heap s.heap [] := va_S.rf
  have hP : HP cC iS cA h sz 0 (fun _ => 0) s.heap := HP.zero hob hsz
  have hl := lv_entry ([.ref h]) (n := 1) (Nat.le_of_ble_eq_true rfl)
  rw [lg_entry_eq]
  generalize (lg_sl ([.ref h]) ++ List.replicate (1 - (lg_sl ([.ref h])).length) Slot.unset).toArray = ls at hl ⊢
  have hl : lv_has ls 1 [(0, .ref h)] := hl
  unfold w9_init at hw
  refine lv_aload_n hx hb dX9_init_0 rfl (lv_at hl 0 rfl) ?_
  refine W.objInit hx hb hown (hts _ q769) (hts _ q81) (hts _ q82) rfl (by rw [S.2.2.1]; exact hl.1) rfl dX9_init_1 (Nat.le_of_ble_eq_true rfl) (Nat.le_of_ble_eq_true rfl) ?_
  refine W.eq (g2 := F0 m 4 ls []) rfl ?_
  refine lv_aload_n hx hb dX9_init_4 rfl (lv_at hl 0 rfl) ?_
  refine lv_sipush (v := 13248) hx hb dX9_init_5 (by decide) ?_
  refine mp_new (len := 13248) S hin hK hKA hP hS hh hsz 0 ⟨by decide, rfl, rfl, rfl, rfl⟩ q779 ⟨by decide, by decide, by decide⟩ (Nat.le_of_ble_eq_true rfl) (Nat.le_of_ble_eq_true rfl) dX9_init_8 dX9_init_10 (fun H locs hP hS => ?_)
  refine W.cs (cells' := 1) (slots' := 13248) rfl rfl ?_
  refine lv_aload_n hx hb dX9_init_13 rfl (lv_at hl 0 rfl) ?_
  refine lv_sipush (v := 13248) hx hb dX9_init_14 (by decide) ?_
  refine mp_new (len := 13248) S hin hK hKA hP hS hh hsz 1 ⟨by decide, rfl, rfl, rfl, rfl⟩ q780 ⟨by decide, by decide, by decide⟩ (Nat.le_of_ble_eq_true rfl) (Nat.le_of_ble_eq_true rfl) dX9_init_17 dX9_init_19 (fun H locs hP hS => ?_)
  refine W.cs (cells' := 2) (slots' := 26496) rfl rfl ?_
  refine lv_aload_n hx hb dX9_init_22 rfl (lv_at hl 0 rfl) ?_
  refine lv_bipush (v := 69) hx hb dX9_init_23 (by decide) ?_
  refine mp_new (len := 69) S hin hK hKA hP hS hh hsz 2 ⟨by decide, rfl, rfl, rfl, rfl⟩ q781 ⟨by decide, by decide, by decide⟩ (Nat.le_of_ble_eq_true rfl) (Nat.le_of_ble_eq_true rfl) dX9_init_25 dX9_init_27 (fun H locs hP hS => ?_)
  refine W.cs (cells' := 3) (slots' := 26565) rfl rfl ?_
  refine lv_aload_n hx hb dX9_init_30 rfl (lv_at hl 0 rfl) ?_
  refine lv_bipush (v := 69) hx hb dX9_init_31 (by decide) ?_
  refine mp_new (len := 69) S hin hK hKA hP hS hh hsz 3 ⟨by decide, rfl, rfl, rfl, rfl⟩ q782 ⟨by decide, by decide, by decide⟩ (Nat.le_of_ble_eq_true rfl) (Nat.le_of_ble_eq_true rfl) dX9_init_33 dX9_init_35 (fun H locs hP hS => ?_)
  refine W.cs (cells' := 4) (slots' := 26634) rfl rfl ?_
  refine lv_aload_n hx hb dX9_init_38 rfl (lv_at hl 0 rfl) ?_
  refine lv_bipush (v := 69) hx hb dX9_init_39 (by decide) ?_
  refine mp_new (len := 69) S hin hK hKA hP hS hh hsz 4 ⟨by decide, rfl, rfl, rfl, rfl⟩ q783 ⟨by decide, by decide, by decide⟩ (Nat.le_of_ble_eq_true rfl) (Nat.le_of_ble_eq_true rfl) dX9_init_41 dX9_init_43 (fun H locs hP hS => ?_)
  refine W.cs (cells' := 5) (slots' := 26703) rfl rfl ?_
  refine lv_aload_n hx hb dX9_init_46 rfl (lv_at hl 0 rfl) ?_
  refine lv_bipush (v := 69) hx hb dX9_init_47 (by decide) ?_
  refine mp_new (len := 69) S hin hK hKA hP hS hh hsz 5 ⟨by decide, rfl, rfl, rfl, rfl⟩ q784 ⟨by decide, by decide, by decide⟩ (Nat.le_of_ble_eq_true rfl) (Nat.le_of_ble_eq_true rfl) dX9_init_49 dX9_init_51 (fun H locs hP hS => ?_)
  refine W.cs (cells' := 6) (slots' := 26772) rfl rfl ?_
  refine lv_aload_n hx hb dX9_init_54 rfl (lv_at hl 0 rfl) ?_
  refine lv_iconst (v := 2) hx hb dX9_init_55 (by decide) ?_
  refine mp_put S hK hP hS hh hsz 9 (by decide) q788 dX9_init_56 rfl rfl ⟨rfl, rfl⟩ (fun H locs hP hS => ?_)
  refine lv_aload_n hx hb dX9_init_59 rfl (lv_at hl 0 rfl) ?_
  refine lv_iconst (v := 5) hx hb dX9_init_60 (by decide) ?_
  refine mp_put S hK hP hS hh hsz 10 (by decide) q789 dX9_init_61 rfl rfl ⟨rfl, rfl⟩ (fun H locs hP hS => ?_)
  refine lv_aload_n hx hb dX9_init_64 rfl (lv_at hl 0 rfl) ?_
  refine lv_sipush (v := 1000) hx hb dX9_init_65 (by decide) ?_
  refine mp_new (len := 1000) S hin hK hKA hP hS hh hsz 20 ⟨by decide, rfl, rfl, rfl, rfl⟩ q799 ⟨by decide, by decide, by decide⟩ (Nat.le_of_ble_eq_true rfl) (Nat.le_of_ble_eq_true rfl) dX9_init_68 dX9_init_70 (fun H locs hP hS => ?_)
  refine W.cs (cells' := 7) (slots' := 27772) rfl rfl ?_
  refine lv_aload_n hx hb dX9_init_73 rfl (lv_at hl 0 rfl) ?_
  refine lv_bipush (v := 10) hx hb dX9_init_74 (by decide) ?_
  refine mp_new (len := 10) S hin hK hKA hP hS hh hsz 29 ⟨by decide, rfl, rfl, rfl, rfl⟩ q808 ⟨by decide, by decide, by decide⟩ (Nat.le_of_ble_eq_true rfl) (Nat.le_of_ble_eq_true rfl) dX9_init_76 dX9_init_78 (fun H locs hP hS => ?_)
  refine W.cs (cells' := 8) (slots' := 27782) rfl rfl ?_
  refine lv_aload_n hx hb dX9_init_81 rfl (lv_at hl 0 rfl) ?_
  refine lv_iconst (v := 2) hx hb dX9_init_82 (by decide) ?_
  refine mp_new (len := 2) S hin hK hKA hP hS hh hsz 30 ⟨by decide, rfl, rfl, rfl, rfl⟩ q809 ⟨by decide, by decide, by decide⟩ (Nat.le_of_ble_eq_true rfl) (Nat.le_of_ble_eq_true rfl) dX9_init_83 dX9_init_85 (fun H locs hP hS => ?_)
  refine W.cs (cells' := 9) (slots' := 27784) rfl rfl ?_
  refine lv_aload_n hx hb dX9_init_88 rfl (lv_at hl 0 rfl) ?_
  refine lv_ldc (v := 88000) hx hb hown (hts _ q770) dX9_init_89 ?_
  refine mp_new (len := 88000) S hin hK hKA hP hS hh hsz 31 ⟨by decide, rfl, rfl, rfl, rfl⟩ q810 ⟨by decide, by decide, by decide⟩ (Nat.le_of_ble_eq_true rfl) (Nat.le_of_ble_eq_true rfl) dX9_init_91 dX9_init_93 (fun H locs hP hS => ?_)
  refine W.cs (cells' := 10) (slots' := 115784) rfl rfl ?_
  refine lv_aload_n hx hb dX9_init_96 rfl (lv_at hl 0 rfl) ?_
  refine lv_bipush (v := 80) hx hb dX9_init_97 (by decide) ?_
  refine mp_new (len := 80) S hin hK hKA hP hS hh hsz 32 ⟨by decide, rfl, rfl, rfl, rfl⟩ q811 ⟨by decide, by decide, by decide⟩ (Nat.le_of_ble_eq_true rfl) (Nat.le_of_ble_eq_true rfl) dX9_init_99 dX9_init_101 (fun H locs hP hS => ?_)
  refine W.cs (cells' := 11) (slots' := 115864) rfl rfl ?_
  refine lv_aload_n hx hb dX9_init_104 rfl (lv_at hl 0 rfl) ?_
  refine lv_sipush (v := 1100) hx hb dX9_init_105 (by decide) ?_
  refine mp_new (len := 1100) S hin hK hKA hP hS hh hsz 33 ⟨by decide, rfl, rfl, rfl, rfl⟩ q812 ⟨by decide, by decide, by decide⟩ (Nat.le_of_ble_eq_true rfl) (Nat.le_of_ble_eq_true rfl) dX9_init_108 dX9_init_110 (fun H locs hP hS => ?_)
  refine W.cs (cells' := 12) (slots' := 116964) rfl rfl ?_
  refine lv_aload_n hx hb dX9_init_113 rfl (lv_at hl 0 rfl) ?_
  refine lv_bipush (v := 60) hx hb dX9_init_114 (by decide) ?_
  refine mp_new (len := 60) S hin hK hKA hP hS hh hsz 40 ⟨by decide, rfl, rfl, rfl, rfl⟩ q819 ⟨by decide, by decide, by decide⟩ (Nat.le_of_ble_eq_true rfl) (Nat.le_of_ble_eq_true rfl) dX9_init_116 dX9_init_118 (fun H locs hP hS => ?_)
  refine W.cs (cells' := 13) (slots' := 117024) rfl rfl ?_
  refine lv_aload_n hx hb dX9_init_121 rfl (lv_at hl 0 rfl) ?_
  refine lv_bipush (v := 60) hx hb dX9_init_122 (by decide) ?_
  refine mp_new (len := 60) S hin hK hKA hP hS hh hsz 41 ⟨by decide, rfl, rfl, rfl, rfl⟩ q820 ⟨by decide, by decide, by decide⟩ (Nat.le_of_ble_eq_true rfl) (Nat.le_of_ble_eq_true rfl) dX9_init_124 dX9_init_126 (fun H locs hP hS => ?_)
  refine W.cs (cells' := 14) (slots' := 117084) rfl rfl ?_
  refine lv_aload_n hx hb dX9_init_129 rfl (lv_at hl 0 rfl) ?_
  refine lv_bipush (v := 60) hx hb dX9_init_130 (by decide) ?_
  refine mp_new (len := 60) S hin hK hKA hP hS hh hsz 42 ⟨by decide, rfl, rfl, rfl, rfl⟩ q821 ⟨by decide, by decide, by decide⟩ (Nat.le_of_ble_eq_true rfl) (Nat.le_of_ble_eq_true rfl) dX9_init_132 dX9_init_134 (fun H locs hP hS => ?_)
  refine W.cs (cells' := 15) (slots' := 117144) rfl rfl ?_
  refine lv_aload_n hx hb dX9_init_137 rfl (lv_at hl 0 rfl) ?_
  refine lv_bipush (v := 60) hx hb dX9_init_138 (by decide) ?_
  refine mp_new (len := 60) S hin hK hKA hP hS hh hsz 43 ⟨by decide, rfl, rfl, rfl, rfl⟩ q822 ⟨by decide, by decide, by decide⟩ (Nat.le_of_ble_eq_true rfl) (Nat.le_of_ble_eq_true rfl) dX9_init_140 dX9_init_142 (fun H locs hP hS => ?_)
  refine W.cs (cells' := 16) (slots' := 117204) rfl rfl ?_
  refine lv_aload_n hx hb dX9_init_145 rfl (lv_at hl 0 rfl) ?_
  refine lv_bipush (v := 60) hx hb dX9_init_146 (by decide) ?_
  refine mp_new (len := 60) S hin hK hKA hP hS hh hsz 44 ⟨by decide, rfl, rfl, rfl, rfl⟩ q823 ⟨by decide, by decide, by decide⟩ (Nat.le_of_ble_eq_true rfl) (Nat.le_of_ble_eq_true rfl) dX9_init_148 dX9_init_150 (fun H locs hP hS => ?_)
  refine W.cs (cells' := 17) (slots' := 117264) rfl rfl ?_
  refine lv_aload_n hx hb dX9_init_153 rfl (lv_at hl 0 rfl) ?_
  refine lv_bipush (v := 60) hx hb dX9_init_154 (by decide) ?_
  refine mp_new (len := 60) S hin hK hKA hP hS hh hsz 45 ⟨by decide, rfl, rfl, rfl, rfl⟩ q824 ⟨by decide, by decide, by decide⟩ (Nat.le_of_ble_eq_true rfl) (Nat.le_of_ble_eq_true rfl) dX9_init_156 dX9_init_158 (fun H locs hP hS => ?_)
  refine W.cs (cells' := 18) (slots' := 117324) rfl rfl ?_
  have hM := HP.full hP hKA.1
  have hS : va_S (HA (mg cC iS cA h sz)) s.heap H locs := ⟨hS.1, fun q h1 h2 => hS.2.1 q h1 (fun e => h2 (Or.inl e)), fun q hq => Or.inl (hS.2.2 q hq)⟩
  refine lv_aload_n hx hb dX9_init_161 rfl (lv_at hl 0 rfl) ?_
  refine lv_iconst (v := 0) hx hb dX9_init_162 (by decide) ?_
  refine lv_iconst (v := 2) hx hb dX9_init_163 (by decide) ?_
  refine lv_iconst (v := 5) hx hb dX9_init_164 (by decide) ?_
  refine mo_callv (g := mg cC iS cA h sz) (As := [.int 0, .int 2, .int 5]) S ⟨hK, hKA.1⟩ hM hS (m9_begins l (mg cC iS cA h sz) (vu (vu (fun _ => 0) 9 2) 10 5) (fun _ _ => 0) 0 2 5 _ (mg_apart hh) hw) (cwV 3 hts (lw_V q771 q773 qs15 q64 q774) rfl rfl rfl (by decide +kernel) ⟨Nat.le_of_ble_eq_true rfl, Nat.le_of_ble_eq_true rfl⟩) rfl hl.1 rfl (lv_room (Nat.le_of_ble_eq_true rfl)) dX9_init_165 ⟨Nat.le_of_ble_eq_true rfl, Nat.le_of_ble_eq_true rfl⟩ (fun V A H locs hw hM hS => ?_)
  have hS : va_S (fun q => q = h ∨ sz ≤ q) s.heap H locs := mg_wide hS
  exact W.vret S.1 S.2.1 hr (fun t ht hW => ⟨⟨(V, A), rfl, hw, by show HM (mg cC iS cA h sz) V A t.heap; rw [ht]; exact hM⟩, hS.F ht⟩) hS.2.2 dX9_init_168 hlocks

/-! THE HEAP'S PICTURE -/
/-- classes by their numbers: the kind of an object is its class's number and one -/
abbrev zCl : List vw_C := [(RX0, TX0, 15), (RX1, TX1, 16), (RX2, TX2, 2), (RX4, TX4, 1), (RX5, TX5, 1), (RX6, TX6, 1), (RX7, TX7, 1), (RX8, TX8, 1), (RX9, TX9, 26), (RX10, TX10, 7), (RX11, TX11, 2), (RX12, TX12, 7), (RX13, TX13, 8), (RJ2, TJ2, 3), (RJ7, TJ7, 6), (RJ17, TJ17, 6)]
def fidL : List (List Nat) := [[3, 5, 6, 8, 11, 13, 15, 16, 19, 21, 22, 25, 27, 28, 31], [32, 34, 36, 39, 41, 43, 45, 46, 48, 51, 53, 55, 56, 58, 60, 63], [65, 66], [68], [68], [68], [68], [68], [71, 73, 75, 76, 78, 81, 83, 85, 86, 88, 90, 92, 94, 96, 98, 101, 103, 105, 106, 109, 111, 113, 115, 117, 119, 120], [123, 125, 127, 129, 131, 132, 134], [136, 139], [141, 142, 144, 146, 148, 150, 153], [123, 125, 127, 129, 131, 132, 154, 156], [158, 161, 162], [131, 129, 123, 125, 132, 127], [131, 129, 123, 125, 132, 127]]
def fid (ci k : Nat) : Nat := (fidL.getD ci []).getD k 0
theorem fid_inj : ∀ ci, ci < 16 → ∀ j, j < (fidL.getD ci []).length → ∀ k, k < (fidL.getD ci []).length → fid ci j = fid ci k → j = k := by decide +kernel
abbrev zTy (cA : Nat → ClassId) : List (ClassId × FieldType) := [(cA 0, .int), (cA 1, .byte), (cA 2, .boolean), (cA 3, .object "FishReaders$Row"), (cA 4, .object "FishReaders$Library"), (cA 5, .object "FishReaders$Fish"), (cA 6, .object "java/lang/Object")]
/-- the classes of what the machine itself throws -/
def xNm (j : Nat) : String := if j = 0 then "java/lang/ArrayIndexOutOfBoundsException" else "java/lang/ClassCastException"
/-- one cell as our heap has it -/
def CellZ (D : va_G) (cA : Nat → ClassId) (z : Nat) (U : State) (h : Hp) (H : Heap) (a : Nat) : Prop :=
  (∀ ci r, zCl[ci]? = some r → gK h a = ci + 1 → z ≤ a ∧ t_OB a (D.1 ci) r.2.2 (D.2 ci) H (fun k => gF h (fid ci k) a)) ∧
  (∀ j, j < 3 → gK h a = 51 + j → z ≤ a ∧ H[a]? = some (vp_cell (cA j) (gL h a, .inl (gI h a)))) ∧
  (∀ j, j < 4 → gK h a = 54 + j → z ≤ a ∧ H[a]? = some (vp_cell (cA (3 + j)) (gL h a, .inr (.inr (.inr (.inr (gR h a))))))) ∧
  (gK h a = 58 → a < z ∧ ∃ cell, H[a]? = some cell ∧ U.isArrayOf cell .int ∧ cell.vm ≠ .unknown ∧ cell.slots.size = gL h a ∧ ∀ j, j < gL h a → cell.slots[j]? = some (.int (gI h a j))) ∧
  (gK h a = 59 → a < z ∧ ∃ cell, H[a]? = some cell ∧ U.isArrayOf cell (.object "java/lang/Object") ∧ cell.vm ≠ .unknown ∧ cell.slots.size = gL h a) ∧
  (gK h a = 60 → a < z ∧ va_O "java/lang/String" a (fun q => z ≤ q) U H ∧ va_OF "java/lang/String" "value" "[B" (gF h 165 a) a (fun q => z ≤ q) U H ∧ va_OF "java/lang/String" "coder" "B" (gF h 166 a) a (fun q => z ≤ q) U H) ∧
  (gK h a = 61 → a < z ∧ ∃ cell, H[a]? = some cell ∧ U.isArrayOf cell .byte ∧ cell.vm ≠ .unknown ∧ cell.slots.size = gL h a ∧ ∀ j, j < gL h a → cell.slots[j]? = some (.int (gI h a j))) ∧
  (∀ j, j < 2 → gK h a = 62 + j → z ≤ a ∧ ∃ cell, H[a]? = some cell ∧ cell.vm.isStatics = false ∧ U.vm.findClass (xNm j) = some cell.cls)
/-- a static field of Throwable lies where its class says -/
def LsZ (n d : String) (z : Nat) (U : State) (H : Heap) : Prop := ∃ (c : ClassId) (k : Class) (i : Nat) (f : Field) (a : Nat) (cell : Cell), U.vm.findClass "java/lang/Throwable" = some c ∧ U.fieldFound? "java/lang/Throwable" n d = some (c, k, i, f) ∧ f.isStatic = true ∧ k.statics = some a ∧ a < z ∧ H[a]? = some cell ∧ cell.vm.isStatics = true ∧ cell.cls = c ∧ f.slot < cell.slots.size ∧ k.staticTypes[f.slot]? = some f.type
theorem LsZ.kept {n d : String} {z : Nat} {U : State} {H H' : Heap} (h : LsZ n d z U H) (hk : ∀ a : Nat, a < z → H'[a]? = H[a]?) : LsZ n d z U H' := by
  obtain ⟨c, k, i, f, a, cell, h1, h2, h3, h4, h5, h6, h7⟩ := h
  exact ⟨c, k, i, f, a, cell, h1, h2, h3, h4, h5, (hk a h5).trans h6, h7⟩
theorem LsZ.moved {n d : String} {z : Nat} {u U : State} {H : Heap} (hvm : u.vm.Alike U.vm) (h : LsZ n d z u H) : LsZ n d z U H := by
  obtain ⟨c, k, i, f, a, cell, h1, h2, h3, h4, h5, h6, h7, h8, h9, h10⟩ := h
  obtain ⟨k', hi', he⟩ := State.fieldFound?_setVm hvm h2
  exact ⟨c, k', i, f, a, cell, by rw [hvm.findClass]; exact h1, hi', h3, by rw [he]; exact h4, h5, h6, h7, h8, h9, by rw [he]; exact h10⟩
theorem LsZ.word {n d : String} {z : Nat} {U : State} {args : Array Value} (h : LsZ n d z U U.heap) : (Cond.laysStatic "java/lang/Throwable" n d).before args U = true := by
  obtain ⟨c, k, i, f, a, cell, h1, h2, h3, h4, h5, h6, h7, h8, h9, h10⟩ := h
  simp [Cond.before, Cond.holds, Cond.value, h1, h2, h3, h4, h6, h7, h8, h9, h10]
abbrev lsU : String × String := ("UNASSIGNED_STACK", "[Ljava/lang/StackTraceElement;")
abbrev lsS : String × String := ("SUPPRESSED_SENTINEL", "Ljava/util/List;")
/-- the static fields that are read -/
def StaZ (cA : Nat → ClassId) (z : Nat) (U : State) (h : Hp) (H : Heap) : Prop :=
  va_Z "java/util/ArrayList" "DEFAULTCAPACITY_EMPTY_ELEMENTDATA" "[Ljava/lang/Object;" (gF h 1001 0) (fun q => z ≤ q) U H ∧
  va_Z "java/lang/Throwable" "UNASSIGNED_STACK" "[Ljava/lang/StackTraceElement;" (gF h 1003 0) (fun q => z ≤ q) U H ∧
  va_Z "java/lang/Throwable" "SUPPRESSED_SENTINEL" "Ljava/util/List;" (gF h 1005 0) (fun q => z ≤ q) U H ∧
  va_Z "java/lang/String" "COMPACT_STRINGS" "Z" (gF h 1006 0) (fun q => z ≤ q) U H ∧
  va_Z "jdk/internal/util/Preconditions" "SIOOBE_FORMATTER" "Ljava/util/function/BiFunction;" (gF h 1007 0) (fun q => z ≤ q) U H ∧
  gF h 1009 0 = .ref (cA 99) ∧ LsZ lsU.1 lsU.2 z U H ∧ LsZ lsS.1 lsS.2 z U H
def RpZ (D : va_G) (cA : Nat → ClassId) (z : Nat) (U : State) (h : Hp) (H : Heap) : Prop :=
  gN h = H.size ∧ (0 < z ∧ z ≤ H.size) ∧ (∀ a, H.size ≤ a → gK h a = 0) ∧ True ∧ (∀ a, CellZ D cA z U h H a) ∧ StaZ cA z U h H
section PIC
variable {D : va_G} {cA : Nat → ClassId} {z : Nat} {U : State} {h h' : Hp} {H H' : Heap}
theorem CellZ.congr {a : Nat} (hC : CellZ D cA z U h H a) (e1 : gK h' a = gK h a) (e2 : gL h' a = gL h a) (e3 : ∀ f, gF h' f a = gF h f a) (e4 : gI h' a = gI h a) (e5 : gR h' a = gR h a) (e6 : H'[a]? = H[a]?) : CellZ D cA z U h' H' a := by
  obtain ⟨c1, c2, c3, c4, c5, c6, c7, c8⟩ := hC
  refine ⟨fun ci r hc hk => ?_, fun j hj hk => ?_, fun j hj hk => ?_, fun hk => ?_, fun hk => ?_, fun hk => ?_, fun hk => ?_, fun j hj hk => ?_⟩
  · obtain ⟨q1, q2⟩ := c1 ci r hc (e1 ▸ hk)
    exact ⟨q1, (q2.kept e6).to (fun k _ => (e3 _).symm)⟩
  · rw [e2, e4, e6]; exact c2 j hj (e1 ▸ hk)
  · rw [e2, e5, e6]; exact c3 j hj (e1 ▸ hk)
  · rw [e2, e4, e6]; exact c4 (e1 ▸ hk)
  · rw [e2, e6]; exact c5 (e1 ▸ hk)
  · obtain ⟨q1, ⟨x1, x2, x3⟩, q3, q4⟩ := c6 (e1 ▸ hk)
    have keep : ∀ {o n d : String} {v : Value}, va_OF o n d v a (fun q => z ≤ q) U H → va_OF o n d v a (fun q => z ≤ q) U H' := by
      intro o n d v hv
      obtain ⟨cf, k, i, f, cell, f1, f2, f3, f4⟩ := hv
      exact ⟨cf, k, i, f, cell, f1, f2, by rw [e6]; exact f3, f4⟩
    rw [e3, e3]
    exact ⟨q1, ⟨x1, by rw [e6]; exact x2, x3⟩, keep q3, keep q4⟩
  · rw [e2, e4, e6]; exact c7 (e1 ▸ hk)
  · rw [e6]; exact c8 j hj (e1 ▸ hk)
theorem CellZ.moved {U' : State} {a : Nat} (hvm : U.vm.Alike U'.vm) (hC : CellZ D cA z U h H a) : CellZ D cA z U' h H a := by
  obtain ⟨c1, c2, c3, c4, c5, c6, c7, c8⟩ := hC
  refine ⟨c1, c2, c3, fun hk => ?_, fun hk => ?_, fun hk => ?_, fun hk => ?_, fun j hj hk => ?_⟩
  · obtain ⟨q1, cell, x1, x2, x3⟩ := c4 hk
    exact ⟨q1, cell, x1, State.isArrayOf_alike hvm x2, x3⟩
  · obtain ⟨q1, cell, x1, x2, x3⟩ := c5 hk
    exact ⟨q1, cell, x1, State.isArrayOf_alike hvm x2, x3⟩
  · obtain ⟨q1, q2, q3, q4⟩ := c6 hk
    exact ⟨q1, q2.moved hvm, q3.moved hvm, q4.moved hvm⟩
  · obtain ⟨q1, cell, x1, x2, x3⟩ := c7 hk
    exact ⟨q1, cell, x1, State.isArrayOf_alike hvm x2, x3⟩
  · obtain ⟨q1, cell, x1, x2, x3⟩ := c8 j hj hk
    exact ⟨q1, cell, x1, x2, by rw [hvm.findClass]; exact x3⟩
theorem StaZ.kept (hS : StaZ cA z U h H) (e3 : ∀ f, gF h' f 0 = gF h f 0) (hk : ∀ a : Nat, a < z → H'[a]? = H[a]?) : StaZ cA z U h' H' := by
  obtain ⟨s1, s2, s3, s4, s5, s6⟩ := hS
  have keep : ∀ {C n d : String} {v : Value}, va_Z C n d v (fun q => z ≤ q) U H → va_Z C n d v (fun q => z ≤ q) U H' := fun hv => hv.kept (fun a _ q => hk a (Nat.not_le.mp q))
  unfold StaZ
  simp only [e3]
  exact ⟨keep s1, keep s2, keep s3, keep s4, keep s5, s6.1, s6.2.1.kept hk, s6.2.2.kept hk⟩
theorem RpZ.set {a : Nat} (hR : RpZ D cA z U h H) (ha : z ≤ a) (hN : gN h' = gN h) (hz : H'.size = H.size) (e1 : ∀ b, gK h' b = gK h b) (e2 : ∀ b, b ≠ a → gL h' b = gL h b) (e3 : ∀ f b, b ≠ a → gF h' f b = gF h f b) (e4 : ∀ b, b ≠ a → gI h' b = gI h b) (e5 : ∀ b, b ≠ a → gR h' b = gR h b) (e6 : ∀ b, b ≠ a → H'[b]? = H[b]?) (hC : CellZ D cA z U h' H' a) : RpZ D cA z U h' H' := by
  obtain ⟨r1, r2, r3, r0, r4, r5⟩ := hR
  refine ⟨by rw [hN, hz]; exact r1, by rw [hz]; exact r2, fun b hb => by rw [e1]; exact r3 b (by omega), trivial, fun b => ?_, r5.kept (fun f => e3 f 0 (by omega)) (fun b hb => e6 b (by omega))⟩
  by_cases hb : b = a
  · rw [hb]; exact hC
  · exact (r4 b).congr (e1 b) (e2 b hb) (fun f => e3 f b hb) (e4 b hb) (e5 b hb) (e6 b hb)
theorem RpZ.push (hR : RpZ D cA z U h H) (hN : gN h' = gN h + 1) (hz : H'.size = H.size + 1) (e1 : ∀ b, b ≠ H.size → gK h' b = gK h b) (e2 : ∀ b, b ≠ H.size → gL h' b = gL h b) (e3 : ∀ f b, b ≠ H.size → gF h' f b = gF h f b) (e4 : ∀ b, b ≠ H.size → gI h' b = gI h b) (e5 : ∀ b, b ≠ H.size → gR h' b = gR h b) (e6 : ∀ b, b < H.size → H'[b]? = H[b]?) (hC : CellZ D cA z U h' H' H.size) : RpZ D cA z U h' H' := by
  obtain ⟨r1, r2, r3, r0, r4, r5⟩ := hR
  have e6' : ∀ b, b ≠ H.size → H'[b]? = H[b]? := by
    intro b hb
    by_cases hl : b < H.size
    · exact e6 b hl
    · rw [Array.getElem?_eq_none (by omega), Array.getElem?_eq_none (by omega)]
  refine ⟨by rw [hN, hz, r1], by rw [hz]; omega, fun b hb => by rw [e1 b (by omega)]; exact r3 b (by omega), trivial, fun b => ?_, r5.kept (fun f => e3 f 0 (by omega)) (fun b hb => e6 b (by omega))⟩
  by_cases hb : b = H.size
  · rw [hb]; exact hC
  · exact (r4 b).congr (e1 b hb) (e2 b hb) (fun f => e3 f b hb) (e4 b hb) (e5 b hb) (e6' b hb)
end PIC

/-! THE START: what the machine holds at the law's entry -/
set_option maxRecDepth 100000
theorem st_kn {s : State} {args : Array Value} (h9 : ∀ w ∈ lw_all, w.before args s = true) : ∀ c : Nat, ∃ q : ClassId × (Nat → Nat), ∀ r : vw_C, bCl[c]? = some r → u_Kn s r.1 r.2.1 r.2.2 q.1 q.2 := by
  intro c
  by_cases hc : c < 13
  · rcases (show c = 0 ∨ c = 1 ∨ c = 2 ∨ c = 3 ∨ c = 4 ∨ c = 5 ∨ c = 6 ∨ c = 7 ∨ c = 8 ∨ c = 9 ∨ c = 10 ∨ c = 11 ∨ c = 12 by omega) with rfl | rfl | rfl | rfl | rfl | rfl | rfl | rfl | rfl | rfl | rfl | rfl | rfl
    · obtain ⟨cC, iS, h⟩ := u_known h9 in_X0 (h9 _ q106)
      exact ⟨(cC, iS), fun r hr => by cases hr; exact h⟩
    · obtain ⟨cC, iS, h⟩ := u_known h9 in_X1 (h9 _ q114)
      exact ⟨(cC, iS), fun r hr => by cases hr; exact h⟩
    · obtain ⟨cC, iS, h⟩ := u_known h9 in_X2 (h9 _ q124)
      exact ⟨(cC, iS), fun r hr => by cases hr; exact h⟩
    · obtain ⟨cC, iS, h⟩ := u_known h9 in_X3 (h9 _ q1040)
      exact ⟨(cC, iS), fun r hr => by cases hr; exact h⟩
    · obtain ⟨cC, iS, h⟩ := u_known h9 in_X4 (h9 _ q222)
      exact ⟨(cC, iS), fun r hr => by cases hr; exact h⟩
    · obtain ⟨cC, iS, h⟩ := u_known h9 in_X5 (h9 _ q372)
      exact ⟨(cC, iS), fun r hr => by cases hr; exact h⟩
    · obtain ⟨cC, iS, h⟩ := u_known h9 in_X6 (h9 _ q389)
      exact ⟨(cC, iS), fun r hr => by cases hr; exact h⟩
    · obtain ⟨cC, iS, h⟩ := u_known h9 in_X7 (h9 _ q396)
      exact ⟨(cC, iS), fun r hr => by cases hr; exact h⟩
    · obtain ⟨cC, iS, h⟩ := u_known h9 in_X8 (h9 _ q404)
      exact ⟨(cC, iS), fun r hr => by cases hr; exact h⟩
    · obtain ⟨cC, iS, h⟩ := u_known h9 in_X9 (h9 _ q411)
      exact ⟨(cC, iS), fun r hr => by cases hr; exact h⟩
    · obtain ⟨cC, iS, h⟩ := u_known h9 in_X10 (h9 _ q418)
      exact ⟨(cC, iS), fun r hr => by cases hr; exact h⟩
    · obtain ⟨cC, iS, h⟩ := u_known h9 in_X11 (h9 _ q784)
      exact ⟨(cC, iS), fun r hr => by cases hr; exact h⟩
    · obtain ⟨cC, iS, h⟩ := u_known h9 in_X12 (h9 _ q896)
      exact ⟨(cC, iS), fun r hr => by cases hr; exact h⟩
  · exact ⟨(0, fun _ => 0), fun r hr => absurd (List.getElem?_eq_some_iff.mp hr).1 (by simpa [bCl] using hc)⟩
theorem st_arr {s : State} {args : Array Value} {t : FieldType} (h : (Cond.arrayClass t).before args s = true) (ht : ∀ C, t ≠ .object C) : ∃ cA : ClassId, ArrOfT s cA t ∧ va_RA s cA t := by
  obtain ⟨c, k, comp, h1, h2, h3⟩ := Cond.arrayClass_spec h
  refine ⟨c, fun N z => ⟨(fun k h => by cases h), k, h2, comp, h3⟩, ?_⟩
  cases t with
  | object C => exact absurd rfl (ht C)
  | _ => exact h1
theorem st_slot {s : State} {args : Array Value} (h : (Cond.arrayOver (.object "RumourBeds$Slot")).before args s = true) : ∃ cA : ClassId, ArrOfT s cA (.object "RumourBeds$Slot") ∧ va_RA s cA (.object "RumourBeds$Slot") := by
  obtain ⟨comp, c, k, h1, -, h2, h3, h4⟩ := Cond.arrayOver_spec h
  exact ⟨c, fun N z => ⟨(fun k h => by cases h), k, h2, comp, h3⟩, k, comp, h2, h3, h1, h4⟩
theorem st_sref {i : Nat} (hi : i < 14) : Cond.stringRef "RumourBeds$Reader" (bSi.getD i 0) (bSx.getD i "") ∈ lw_tbl := by
  rcases (show i = 0 ∨ i = 1 ∨ i = 2 ∨ i = 3 ∨ i = 4 ∨ i = 5 ∨ i = 6 ∨ i = 7 ∨ i = 8 ∨ i = 9 ∨ i = 10 ∨ i = 11 ∨ i = 12 ∨ i = 13 by omega) with rfl | rfl | rfl | rfl | rfl | rfl | rfl | rfl | rfl | rfl | rfl | rfl | rfl | rfl
  · exact q829
  · exact q882
  · exact q883
  · exact q884
  · exact q885
  · exact q886
  · exact q914
  · exact q932
  · exact q937
  · exact q944
  · exact q949
  · exact q950
  · exact q951
  · exact q952
def st_tm (i : Nat) : Term := .string "RumourBeds$Reader" (bSi.getD i 0)
def st_fl : List Cond := flatC (Jvm.Cond.and given_1 narrow_1)
theorem st_w1 : ∀ i, i < 14 → Cond.exactly (st_tm i) "java/lang/String" ∈ st_fl := by decide +kernel
theorem st_w2 : ∀ i, i < 14 → Cond.eq (.field (st_tm i) "java/lang/String" "coder" "B") (.int 0) ∈ st_fl := by decide +kernel
theorem st_w3 : ∀ i, i < 14 → Cond.arrayOf (.field (st_tm i) "java/lang/String" "value" "[B") .byte ∈ st_fl := by decide +kernel
theorem st_w4 : ∀ i, i < 14 → Cond.eq (.length (.field (st_tm i) "java/lang/String" "value" "[B")) (.int (Int32.ofNat (bSn.getD i 0))) ∈ st_fl := by decide +kernel
theorem st_w5 : ∀ i, i < 14 → ∀ j, j < bSn.getD i 0 → Cond.eq (.elem (.field (st_tm i) "java/lang/String" "value" "[B") (.int (Int32.ofNat j))) (.int ((bSb.getD i []).getD j 0)) ∈ st_fl := by decide +kernel
theorem st_n : ∀ i, i < 14 → bSn.getD i 0 < 2 ^ 31 := by decide +kernel
theorem st_c1 : Cond.not (.castable "[S" "[B") ∈ st_fl := by decide +kernel
theorem st_c2 : Cond.not (.castable "[J" "[B") ∈ st_fl := by decide +kernel
theorem st_c3 : Cond.not (.castable "[J" "[S") ∈ st_fl := by decide +kernel
theorem st_c4 : Cond.not (.castable "[B" "[S") ∈ st_fl := by decide +kernel
theorem st_s1 : Cond.isRef (.static "java/lang/Throwable" "UNASSIGNED_STACK" "[Ljava/lang/StackTraceElement;") ∈ st_fl := by decide +kernel
theorem st_s2 : Cond.isRef (.static "java/lang/Throwable" "SUPPRESSED_SENTINEL" "Ljava/util/List;") ∈ st_fl := by decide +kernel
theorem st_s3 : Cond.isRef (.static "jdk/internal/util/Preconditions" "SIOOBE_FORMATTER" "Ljava/util/function/BiFunction;") ∈ st_fl := by decide +kernel
theorem st_s4 : Cond.eq (.static "java/lang/String" "COMPACT_STRINGS" "Z") (.int 1) ∈ st_fl := by decide +kernel
theorem st_w7 : ∀ w ∈ bNd, w ∈ st_fl := by decide +kernel

theorem st_w8 : ∀ w ∈ bNw, w ∈ lw_tbl := List.forall_mem_cons.mpr ⟨q119, List.forall_mem_cons.mpr ⟨q125, List.forall_mem_cons.mpr ⟨q368, List.forall_mem_cons.mpr ⟨q373, List.forall_mem_cons.mpr ⟨q390, List.forall_mem_cons.mpr ⟨q393, List.forall_mem_cons.mpr ⟨q397, List.forall_mem_cons.mpr ⟨q400, List.forall_mem_cons.mpr ⟨q405, List.forall_mem_cons.mpr ⟨q408, List.forall_mem_cons.mpr ⟨q412, List.forall_mem_cons.mpr ⟨q415, List.forall_mem_cons.mpr ⟨q419, List.forall_mem_cons.mpr ⟨q422, List.forall_mem_cons.mpr ⟨q582, List.forall_mem_cons.mpr ⟨q820, List.forall_mem_cons.mpr ⟨q942, List.forall_mem_cons.mpr ⟨q223, List.forall_mem_cons.mpr ⟨q897, List.forall_mem_cons.mpr ⟨q1551, List.forall_mem_cons.mpr ⟨q1552, List.forall_mem_cons.mpr ⟨q1553, List.forall_mem_cons.mpr ⟨q1554, List.forall_mem_cons.mpr ⟨q1555, fun _ h => by cases h⟩⟩⟩⟩⟩⟩⟩⟩⟩⟩⟩⟩⟩⟩⟩⟩⟩⟩⟩⟩⟩⟩⟩⟩

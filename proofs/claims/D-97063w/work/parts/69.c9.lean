/-! the component: a cellar made, like another, anew -/
set_option maxRecDepth 100000
section
variable {l : Launch} {G : GG} {th : Th} {rh : Rh} {ph : Ph} {ka : Ka} {A : XA} {x c w P Q kd b : Nat}
theorem dfl_0 : ∀ ty : Nat → FieldType, (∀ k, k < 22 → parseFieldDescriptor (TX0 k).2.2.1 = some (ty k)) → ∀ k, k < 22 → defaultValue (ty k) = gV 0 (fun _ => 0) (fun _ => none) k := by
  intro ty hty k hk
  match k, hk with
  | 0, _ => rw [← Option.some.inj ((by decide +kernel : parseFieldDescriptor "[I" = some (.array .int)).symm.trans (hty 0 (by decide)))]; rfl
  | 1, _ => rw [← Option.some.inj ((by decide +kernel : parseFieldDescriptor "LLevelCellars$Town;" = some (.object "LevelCellars$Town")).symm.trans (hty 1 (by decide)))]; rfl
  | 2, _ => rw [← Option.some.inj ((by decide +kernel : parseFieldDescriptor "LLevelCellars$Town;" = some (.object "LevelCellars$Town")).symm.trans (hty 2 (by decide)))]; rfl
  | 3, _ => rw [← Option.some.inj ((by decide +kernel : parseFieldDescriptor "LLevelCellars$Town;" = some (.object "LevelCellars$Town")).symm.trans (hty 3 (by decide)))]; rfl
  | 4, _ => rw [← Option.some.inj ((by decide +kernel : parseFieldDescriptor "Z" = some (.boolean)).symm.trans (hty 4 (by decide)))]; rfl
  | 5, _ => rw [← Option.some.inj ((by decide +kernel : parseFieldDescriptor "[I" = some (.array .int)).symm.trans (hty 5 (by decide)))]; rfl
  | 6, _ => rw [← Option.some.inj ((by decide +kernel : parseFieldDescriptor "[B" = some (.array .byte)).symm.trans (hty 6 (by decide)))]; rfl
  | 7, _ => rw [← Option.some.inj ((by decide +kernel : parseFieldDescriptor "I" = some (.int)).symm.trans (hty 7 (by decide)))]; rfl
  | 8, _ => rw [← Option.some.inj ((by decide +kernel : parseFieldDescriptor "I" = some (.int)).symm.trans (hty 8 (by decide)))]; rfl
  | 9, _ => rw [← Option.some.inj ((by decide +kernel : parseFieldDescriptor "I" = some (.int)).symm.trans (hty 9 (by decide)))]; rfl
  | 10, _ => rw [← Option.some.inj ((by decide +kernel : parseFieldDescriptor "I" = some (.int)).symm.trans (hty 10 (by decide)))]; rfl
  | 11, _ => rw [← Option.some.inj ((by decide +kernel : parseFieldDescriptor "I" = some (.int)).symm.trans (hty 11 (by decide)))]; rfl
  | 12, _ => rw [← Option.some.inj ((by decide +kernel : parseFieldDescriptor "I" = some (.int)).symm.trans (hty 12 (by decide)))]; rfl
  | 13, _ => rw [← Option.some.inj ((by decide +kernel : parseFieldDescriptor "I" = some (.int)).symm.trans (hty 13 (by decide)))]; rfl
  | 14, _ => rw [← Option.some.inj ((by decide +kernel : parseFieldDescriptor "I" = some (.int)).symm.trans (hty 14 (by decide)))]; rfl
  | 15, _ => rw [← Option.some.inj ((by decide +kernel : parseFieldDescriptor "I" = some (.int)).symm.trans (hty 15 (by decide)))]; rfl
  | 16, _ => rw [← Option.some.inj ((by decide +kernel : parseFieldDescriptor "[LLevelCellars$Holder;" = some (.array (.object "LevelCellars$Holder"))).symm.trans (hty 16 (by decide)))]; rfl
  | 17, _ => rw [← Option.some.inj ((by decide +kernel : parseFieldDescriptor "[LLevelCellars$Holder;" = some (.array (.object "LevelCellars$Holder"))).symm.trans (hty 17 (by decide)))]; rfl
  | 18, _ => rw [← Option.some.inj ((by decide +kernel : parseFieldDescriptor "[I" = some (.array .int)).symm.trans (hty 18 (by decide)))]; rfl
  | 19, _ => rw [← Option.some.inj ((by decide +kernel : parseFieldDescriptor "I" = some (.int)).symm.trans (hty 19 (by decide)))]; rfl
  | 20, _ => rw [← Option.some.inj ((by decide +kernel : parseFieldDescriptor "I" = some (.int)).symm.trans (hty 20 (by decide)))]; rfl
  | 21, _ => rw [← Option.some.inj ((by decide +kernel : parseFieldDescriptor "Z" = some (.boolean)).symm.trans (hty 21 (by decide)))]; rfl
  | k + 22, h => exact absurd h (by omega)
theorem dfl_1 : ∀ ty : Nat → FieldType, (∀ k, k < 14 → parseFieldDescriptor (TX1 k).2.2.1 = some (ty k)) → ∀ k, k < 14 → defaultValue (ty k) = gV 1 (fun _ => 0) (fun _ => none) k := by
  intro ty hty k hk
  match k, hk with
  | 0, _ => rw [← Option.some.inj ((by decide +kernel : parseFieldDescriptor "I" = some (.int)).symm.trans (hty 0 (by decide)))]; rfl
  | 1, _ => rw [← Option.some.inj ((by decide +kernel : parseFieldDescriptor "I" = some (.int)).symm.trans (hty 1 (by decide)))]; rfl
  | 2, _ => rw [← Option.some.inj ((by decide +kernel : parseFieldDescriptor "I" = some (.int)).symm.trans (hty 2 (by decide)))]; rfl
  | 3, _ => rw [← Option.some.inj ((by decide +kernel : parseFieldDescriptor "I" = some (.int)).symm.trans (hty 3 (by decide)))]; rfl
  | 4, _ => rw [← Option.some.inj ((by decide +kernel : parseFieldDescriptor "I" = some (.int)).symm.trans (hty 4 (by decide)))]; rfl
  | 5, _ => rw [← Option.some.inj ((by decide +kernel : parseFieldDescriptor "I" = some (.int)).symm.trans (hty 5 (by decide)))]; rfl
  | 6, _ => rw [← Option.some.inj ((by decide +kernel : parseFieldDescriptor "I" = some (.int)).symm.trans (hty 6 (by decide)))]; rfl
  | 7, _ => rw [← Option.some.inj ((by decide +kernel : parseFieldDescriptor "[I" = some (.array .int)).symm.trans (hty 7 (by decide)))]; rfl
  | 8, _ => rw [← Option.some.inj ((by decide +kernel : parseFieldDescriptor "[I" = some (.array .int)).symm.trans (hty 8 (by decide)))]; rfl
  | 9, _ => rw [← Option.some.inj ((by decide +kernel : parseFieldDescriptor "[I" = some (.array .int)).symm.trans (hty 9 (by decide)))]; rfl
  | 10, _ => rw [← Option.some.inj ((by decide +kernel : parseFieldDescriptor "[Z" = some (.array .boolean)).symm.trans (hty 10 (by decide)))]; rfl
  | 11, _ => rw [← Option.some.inj ((by decide +kernel : parseFieldDescriptor "[LLevelCellars$Cellar;" = some (.array (.object "LevelCellars$Cellar"))).symm.trans (hty 11 (by decide)))]; rfl
  | 12, _ => rw [← Option.some.inj ((by decide +kernel : parseFieldDescriptor "[LLevelCellars$Text;" = some (.array (.object "LevelCellars$Text"))).symm.trans (hty 12 (by decide)))]; rfl
  | 13, _ => rw [← Option.some.inj ((by decide +kernel : parseFieldDescriptor "LLevelCellars;" = some (.object "LevelCellars")).symm.trans (hty 13 (by decide)))]; rfl
  | k + 14, h => exact absurd h (by omega)
theorem dfl_2 : ∀ ty : Nat → FieldType, (∀ k, k < 1 → parseFieldDescriptor (TX2 k).2.2.1 = some (ty k)) → ∀ k, k < 1 → defaultValue (ty k) = gV 2 (fun _ => 0) (fun _ => none) k := by
  intro ty hty k hk
  match k, hk with
  | 0, _ => rw [← Option.some.inj ((by decide +kernel : parseFieldDescriptor "Ljava/lang/Object;" = some (.object "java/lang/Object")).symm.trans (hty 0 (by decide)))]; rfl
  | k + 1, h => exact absurd h (by omega)
theorem dfl_3 : ∀ ty : Nat → FieldType, (∀ k, k < 35 → parseFieldDescriptor (TX3 k).2.2.1 = some (ty k)) → ∀ k, k < 35 → defaultValue (ty k) = gV 3 (fun _ => 0) (fun _ => none) k := by
  intro ty hty k hk
  match k, hk with
  | 0, _ => rw [← Option.some.inj ((by decide +kernel : parseFieldDescriptor "[I" = some (.array .int)).symm.trans (hty 0 (by decide)))]; rfl
  | 1, _ => rw [← Option.some.inj ((by decide +kernel : parseFieldDescriptor "[I" = some (.array .int)).symm.trans (hty 1 (by decide)))]; rfl
  | 2, _ => rw [← Option.some.inj ((by decide +kernel : parseFieldDescriptor "[I" = some (.array .int)).symm.trans (hty 2 (by decide)))]; rfl
  | 3, _ => rw [← Option.some.inj ((by decide +kernel : parseFieldDescriptor "Z" = some (.boolean)).symm.trans (hty 3 (by decide)))]; rfl
  | 4, _ => rw [← Option.some.inj ((by decide +kernel : parseFieldDescriptor "[I" = some (.array .int)).symm.trans (hty 4 (by decide)))]; rfl
  | 5, _ => rw [← Option.some.inj ((by decide +kernel : parseFieldDescriptor "[I" = some (.array .int)).symm.trans (hty 5 (by decide)))]; rfl
  | 6, _ => rw [← Option.some.inj ((by decide +kernel : parseFieldDescriptor "[I" = some (.array .int)).symm.trans (hty 6 (by decide)))]; rfl
  | 7, _ => rw [← Option.some.inj ((by decide +kernel : parseFieldDescriptor "[I" = some (.array .int)).symm.trans (hty 7 (by decide)))]; rfl
  | 8, _ => rw [← Option.some.inj ((by decide +kernel : parseFieldDescriptor "I" = some (.int)).symm.trans (hty 8 (by decide)))]; rfl
  | 9, _ => rw [← Option.some.inj ((by decide +kernel : parseFieldDescriptor "I" = some (.int)).symm.trans (hty 9 (by decide)))]; rfl
  | 10, _ => rw [← Option.some.inj ((by decide +kernel : parseFieldDescriptor "I" = some (.int)).symm.trans (hty 10 (by decide)))]; rfl
  | 11, _ => rw [← Option.some.inj ((by decide +kernel : parseFieldDescriptor "I" = some (.int)).symm.trans (hty 11 (by decide)))]; rfl
  | 12, _ => rw [← Option.some.inj ((by decide +kernel : parseFieldDescriptor "I" = some (.int)).symm.trans (hty 12 (by decide)))]; rfl
  | 13, _ => rw [← Option.some.inj ((by decide +kernel : parseFieldDescriptor "I" = some (.int)).symm.trans (hty 13 (by decide)))]; rfl
  | 14, _ => rw [← Option.some.inj ((by decide +kernel : parseFieldDescriptor "I" = some (.int)).symm.trans (hty 14 (by decide)))]; rfl
  | 15, _ => rw [← Option.some.inj ((by decide +kernel : parseFieldDescriptor "[C" = some (.array .char)).symm.trans (hty 15 (by decide)))]; rfl
  | 16, _ => rw [← Option.some.inj ((by decide +kernel : parseFieldDescriptor "[I" = some (.array .int)).symm.trans (hty 16 (by decide)))]; rfl
  | 17, _ => rw [← Option.some.inj ((by decide +kernel : parseFieldDescriptor "[I" = some (.array .int)).symm.trans (hty 17 (by decide)))]; rfl
  | 18, _ => rw [← Option.some.inj ((by decide +kernel : parseFieldDescriptor "I" = some (.int)).symm.trans (hty 18 (by decide)))]; rfl
  | 19, _ => rw [← Option.some.inj ((by decide +kernel : parseFieldDescriptor "I" = some (.int)).symm.trans (hty 19 (by decide)))]; rfl
  | 20, _ => rw [← Option.some.inj ((by decide +kernel : parseFieldDescriptor "[I" = some (.array .int)).symm.trans (hty 20 (by decide)))]; rfl
  | 21, _ => rw [← Option.some.inj ((by decide +kernel : parseFieldDescriptor "I" = some (.int)).symm.trans (hty 21 (by decide)))]; rfl
  | 22, _ => rw [← Option.some.inj ((by decide +kernel : parseFieldDescriptor "[Z" = some (.array .boolean)).symm.trans (hty 22 (by decide)))]; rfl
  | 23, _ => rw [← Option.some.inj ((by decide +kernel : parseFieldDescriptor "[I" = some (.array .int)).symm.trans (hty 23 (by decide)))]; rfl
  | 24, _ => rw [← Option.some.inj ((by decide +kernel : parseFieldDescriptor "[I" = some (.array .int)).symm.trans (hty 24 (by decide)))]; rfl
  | 25, _ => rw [← Option.some.inj ((by decide +kernel : parseFieldDescriptor "[I" = some (.array .int)).symm.trans (hty 25 (by decide)))]; rfl
  | 26, _ => rw [← Option.some.inj ((by decide +kernel : parseFieldDescriptor "[I" = some (.array .int)).symm.trans (hty 26 (by decide)))]; rfl
  | 27, _ => rw [← Option.some.inj ((by decide +kernel : parseFieldDescriptor "[I" = some (.array .int)).symm.trans (hty 27 (by decide)))]; rfl
  | 28, _ => rw [← Option.some.inj ((by decide +kernel : parseFieldDescriptor "[I" = some (.array .int)).symm.trans (hty 28 (by decide)))]; rfl
  | 29, _ => rw [← Option.some.inj ((by decide +kernel : parseFieldDescriptor "[I" = some (.array .int)).symm.trans (hty 29 (by decide)))]; rfl
  | 30, _ => rw [← Option.some.inj ((by decide +kernel : parseFieldDescriptor "[I" = some (.array .int)).symm.trans (hty 30 (by decide)))]; rfl
  | 31, _ => rw [← Option.some.inj ((by decide +kernel : parseFieldDescriptor "[I" = some (.array .int)).symm.trans (hty 31 (by decide)))]; rfl
  | 32, _ => rw [← Option.some.inj ((by decide +kernel : parseFieldDescriptor "[I" = some (.array .int)).symm.trans (hty 32 (by decide)))]; rfl
  | 33, _ => rw [← Option.some.inj ((by decide +kernel : parseFieldDescriptor "[I" = some (.array .int)).symm.trans (hty 33 (by decide)))]; rfl
  | 34, _ => rw [← Option.some.inj ((by decide +kernel : parseFieldDescriptor "I" = some (.int)).symm.trans (hty 34 (by decide)))]; rfl
  | k + 35, h => exact absurd h (by omega)
theorem dfl_4 : ∀ ty : Nat → FieldType, (∀ k, k < 4 → parseFieldDescriptor (TX4 k).2.2.1 = some (ty k)) → ∀ k, k < 4 → defaultValue (ty k) = gV 4 (fun _ => 0) (fun _ => none) k := by
  intro ty hty k hk
  match k, hk with
  | 0, _ => rw [← Option.some.inj ((by decide +kernel : parseFieldDescriptor "I" = some (.int)).symm.trans (hty 0 (by decide)))]; rfl
  | 1, _ => rw [← Option.some.inj ((by decide +kernel : parseFieldDescriptor "I" = some (.int)).symm.trans (hty 1 (by decide)))]; rfl
  | 2, _ => rw [← Option.some.inj ((by decide +kernel : parseFieldDescriptor "[I" = some (.array .int)).symm.trans (hty 2 (by decide)))]; rfl
  | 3, _ => rw [← Option.some.inj ((by decide +kernel : parseFieldDescriptor "LLevelCellars;" = some (.object "LevelCellars")).symm.trans (hty 3 (by decide)))]; rfl
  | k + 4, h => exact absurd h (by omega)
theorem dfl_5 : ∀ ty : Nat → FieldType, (∀ k, k < 4 → parseFieldDescriptor (TX5 k).2.2.1 = some (ty k)) → ∀ k, k < 4 → defaultValue (ty k) = gV 5 (fun _ => 0) (fun _ => none) k := by
  intro ty hty k hk
  match k, hk with
  | 0, _ => rw [← Option.some.inj ((by decide +kernel : parseFieldDescriptor "I" = some (.int)).symm.trans (hty 0 (by decide)))]; rfl
  | 1, _ => rw [← Option.some.inj ((by decide +kernel : parseFieldDescriptor "I" = some (.int)).symm.trans (hty 1 (by decide)))]; rfl
  | 2, _ => rw [← Option.some.inj ((by decide +kernel : parseFieldDescriptor "[I" = some (.array .int)).symm.trans (hty 2 (by decide)))]; rfl
  | 3, _ => rw [← Option.some.inj ((by decide +kernel : parseFieldDescriptor "LLevelCellars;" = some (.object "LevelCellars")).symm.trans (hty 3 (by decide)))]; rfl
  | k + 4, h => exact absurd h (by omega)
theorem dfl_6 : ∀ ty : Nat → FieldType, (∀ k, k < 4 → parseFieldDescriptor (TX6 k).2.2.1 = some (ty k)) → ∀ k, k < 4 → defaultValue (ty k) = gV 6 (fun _ => 0) (fun _ => none) k := by
  intro ty hty k hk
  match k, hk with
  | 0, _ => rw [← Option.some.inj ((by decide +kernel : parseFieldDescriptor "I" = some (.int)).symm.trans (hty 0 (by decide)))]; rfl
  | 1, _ => rw [← Option.some.inj ((by decide +kernel : parseFieldDescriptor "I" = some (.int)).symm.trans (hty 1 (by decide)))]; rfl
  | 2, _ => rw [← Option.some.inj ((by decide +kernel : parseFieldDescriptor "[I" = some (.array .int)).symm.trans (hty 2 (by decide)))]; rfl
  | 3, _ => rw [← Option.some.inj ((by decide +kernel : parseFieldDescriptor "LLevelCellars;" = some (.object "LevelCellars")).symm.trans (hty 3 (by decide)))]; rfl
  | k + 4, h => exact absurd h (by omega)
theorem dfl_7 : ∀ ty : Nat → FieldType, (∀ k, k < 4 → parseFieldDescriptor (TX7 k).2.2.1 = some (ty k)) → ∀ k, k < 4 → defaultValue (ty k) = gV 7 (fun _ => 0) (fun _ => none) k := by
  intro ty hty k hk
  match k, hk with
  | 0, _ => rw [← Option.some.inj ((by decide +kernel : parseFieldDescriptor "I" = some (.int)).symm.trans (hty 0 (by decide)))]; rfl
  | 1, _ => rw [← Option.some.inj ((by decide +kernel : parseFieldDescriptor "I" = some (.int)).symm.trans (hty 1 (by decide)))]; rfl
  | 2, _ => rw [← Option.some.inj ((by decide +kernel : parseFieldDescriptor "[I" = some (.array .int)).symm.trans (hty 2 (by decide)))]; rfl
  | 3, _ => rw [← Option.some.inj ((by decide +kernel : parseFieldDescriptor "LLevelCellars;" = some (.object "LevelCellars")).symm.trans (hty 3 (by decide)))]; rfl
  | k + 4, h => exact absurd h (by omega)
theorem dfl_8 : ∀ ty : Nat → FieldType, (∀ k, k < 4 → parseFieldDescriptor (TX8 k).2.2.1 = some (ty k)) → ∀ k, k < 4 → defaultValue (ty k) = gV 8 (fun _ => 0) (fun _ => none) k := by
  intro ty hty k hk
  match k, hk with
  | 0, _ => rw [← Option.some.inj ((by decide +kernel : parseFieldDescriptor "I" = some (.int)).symm.trans (hty 0 (by decide)))]; rfl
  | 1, _ => rw [← Option.some.inj ((by decide +kernel : parseFieldDescriptor "I" = some (.int)).symm.trans (hty 1 (by decide)))]; rfl
  | 2, _ => rw [← Option.some.inj ((by decide +kernel : parseFieldDescriptor "[I" = some (.array .int)).symm.trans (hty 2 (by decide)))]; rfl
  | 3, _ => rw [← Option.some.inj ((by decide +kernel : parseFieldDescriptor "LLevelCellars;" = some (.object "LevelCellars")).symm.trans (hty 3 (by decide)))]; rfl
  | k + 4, h => exact absurd h (by omega)
theorem dfl_9 : ∀ ty : Nat → FieldType, (∀ k, k < 4 → parseFieldDescriptor (TX9 k).2.2.1 = some (ty k)) → ∀ k, k < 4 → defaultValue (ty k) = gV 9 (fun _ => 0) (fun _ => none) k := by
  intro ty hty k hk
  match k, hk with
  | 0, _ => rw [← Option.some.inj ((by decide +kernel : parseFieldDescriptor "I" = some (.int)).symm.trans (hty 0 (by decide)))]; rfl
  | 1, _ => rw [← Option.some.inj ((by decide +kernel : parseFieldDescriptor "I" = some (.int)).symm.trans (hty 1 (by decide)))]; rfl
  | 2, _ => rw [← Option.some.inj ((by decide +kernel : parseFieldDescriptor "[I" = some (.array .int)).symm.trans (hty 2 (by decide)))]; rfl
  | 3, _ => rw [← Option.some.inj ((by decide +kernel : parseFieldDescriptor "LLevelCellars;" = some (.object "LevelCellars")).symm.trans (hty 3 (by decide)))]; rfl
  | k + 4, h => exact absurd h (by omega)
theorem dfl_10 : ∀ ty : Nat → FieldType, (∀ k, k < 3 → parseFieldDescriptor (TX10 k).2.2.1 = some (ty k)) → ∀ k, k < 3 → defaultValue (ty k) = gV 10 (fun _ => 0) (fun _ => none) k := by
  intro ty hty k hk
  match k, hk with
  | 0, _ => rw [← Option.some.inj ((by decide +kernel : parseFieldDescriptor "I" = some (.int)).symm.trans (hty 0 (by decide)))]; rfl
  | 1, _ => rw [← Option.some.inj ((by decide +kernel : parseFieldDescriptor "LLevelCellars$Worth;" = some (.object "LevelCellars$Worth")).symm.trans (hty 1 (by decide)))]; rfl
  | 2, _ => rw [← Option.some.inj ((by decide +kernel : parseFieldDescriptor "LLevelCellars$Worth;" = some (.object "LevelCellars$Worth")).symm.trans (hty 2 (by decide)))]; rfl
  | k + 3, h => exact absurd h (by omega)
theorem dfl_11 : ∀ ty : Nat → FieldType, (∀ k, k < 7 → parseFieldDescriptor (TX11 k).2.2.1 = some (ty k)) → ∀ k, k < 7 → defaultValue (ty k) = gV 11 (fun _ => 0) (fun _ => none) k := by
  intro ty hty k hk
  match k, hk with
  | 0, _ => rw [← Option.some.inj ((by decide +kernel : parseFieldDescriptor "Ljava/lang/Throwable;" = some (.object "java/lang/Throwable")).symm.trans (hty 0 (by decide)))]; rfl
  | 1, _ => rw [← Option.some.inj ((by decide +kernel : parseFieldDescriptor "[Ljava/lang/StackTraceElement;" = some (.array (.object "java/lang/StackTraceElement"))).symm.trans (hty 1 (by decide)))]; rfl
  | 2, _ => rw [← Option.some.inj ((by decide +kernel : parseFieldDescriptor "Ljava/util/List;" = some (.object "java/util/List")).symm.trans (hty 2 (by decide)))]; rfl
  | 3, _ => rw [← Option.some.inj ((by decide +kernel : parseFieldDescriptor "Ljava/lang/String;" = some (.object "java/lang/String")).symm.trans (hty 3 (by decide)))]; rfl
  | 4, _ => rw [← Option.some.inj ((by decide +kernel : parseFieldDescriptor "Ljava/lang/Object;" = some (.object "java/lang/Object")).symm.trans (hty 4 (by decide)))]; rfl
  | 5, _ => rw [← Option.some.inj ((by decide +kernel : parseFieldDescriptor "I" = some (.int)).symm.trans (hty 5 (by decide)))]; rfl
  | 6, _ => rw [← Option.some.inj ((by decide +kernel : parseFieldDescriptor "I" = some (.int)).symm.trans (hty 6 (by decide)))]; rfl
  | k + 7, h => exact absurd h (by omega)
theorem dfl_12 : ∀ ty : Nat → FieldType, (∀ k, k < 1 → parseFieldDescriptor (TX12 k).2.2.1 = some (ty k)) → ∀ k, k < 1 → defaultValue (ty k) = gV 12 (fun _ => 0) (fun _ => none) k := by
  intro ty hty k hk
  match k, hk with
  | 0, _ => rw [← Option.some.inj ((by decide +kernel : parseFieldDescriptor "I" = some (.int)).symm.trans (hty 0 (by decide)))]; rfl
  | k + 1, h => exact absurd h (by omega)
theorem dfl_13 : ∀ ty : Nat → FieldType, (∀ k, k < 2 → parseFieldDescriptor (TX13 k).2.2.1 = some (ty k)) → ∀ k, k < 2 → defaultValue (ty k) = gV 13 (fun _ => 0) (fun _ => none) k := by
  intro ty hty k hk
  match k, hk with
  | 0, _ => rw [← Option.some.inj ((by decide +kernel : parseFieldDescriptor "I" = some (.int)).symm.trans (hty 0 (by decide)))]; rfl
  | 1, _ => rw [← Option.some.inj ((by decide +kernel : parseFieldDescriptor "LLevelCellars;" = some (.object "LevelCellars")).symm.trans (hty 1 (by decide)))]; rfl
  | k + 2, h => exact absurd h (by omega)
theorem dfl_14 : ∀ ty : Nat → FieldType, (∀ k, k < 1 → parseFieldDescriptor (TX14 k).2.2.1 = some (ty k)) → ∀ k, k < 1 → defaultValue (ty k) = gV 14 (fun _ => 0) (fun _ => none) k := by
  intro ty hty k hk
  match k, hk with
  | 0, _ => rw [← Option.some.inj ((by decide +kernel : parseFieldDescriptor "LLevelCellars$Worth;" = some (.object "LevelCellars$Worth")).symm.trans (hty 0 (by decide)))]; rfl
  | k + 1, h => exact absurd h (by omega)
theorem dfl_15 : ∀ ty : Nat → FieldType, (∀ k, k < 3 → parseFieldDescriptor (TX15 k).2.2.1 = some (ty k)) → ∀ k, k < 3 → defaultValue (ty k) = gV 15 (fun _ => 0) (fun _ => none) k := by
  intro ty hty k hk
  match k, hk with
  | 0, _ => rw [← Option.some.inj ((by decide +kernel : parseFieldDescriptor "I" = some (.int)).symm.trans (hty 0 (by decide)))]; rfl
  | 1, _ => rw [← Option.some.inj ((by decide +kernel : parseFieldDescriptor "I" = some (.int)).symm.trans (hty 1 (by decide)))]; rfl
  | 2, _ => rw [← Option.some.inj ((by decide +kernel : parseFieldDescriptor "LLevelCellars$Worth;" = some (.object "LevelCellars$Worth")).symm.trans (hty 2 (by decide)))]; rfl
  | k + 3, h => exact absurd h (by omega)
theorem dfl_16 : ∀ ty : Nat → FieldType, (∀ k, k < 1 → parseFieldDescriptor (TX16 k).2.2.1 = some (ty k)) → ∀ k, k < 1 → defaultValue (ty k) = gV 16 (fun _ => 0) (fun _ => none) k := by
  intro ty hty k hk
  match k, hk with
  | 0, _ => rw [← Option.some.inj ((by decide +kernel : parseFieldDescriptor "I" = some (.int)).symm.trans (hty 0 (by decide)))]; rfl
  | k + 1, h => exact absurd h (by omega)
set_option maxHeartbeats 4000000 in
theorem ok_X0_made (hO : LayO th rh A) (hkd : kd ≤ 5) : Met l yX0_made (ws_ yX0_made cX0_made 2 (some (.object "LevelCellars$Cellar"))) (RM 4 2 9) (Pc_ G [.ref A.x, .int (nI kd)] th rh ph ka) (QGr G (fun r th' rh' ph' ka' => ∃ b w, r = some b ∧ NewC A.x b w kd th rh ph ka th' rh' ph' ka')) 2 9 (frG G) := by
  refine m_of (by decide) (Nat.le_of_ble_eq_true rfl) ?_
  intro p_ e_ s_ m_ below_ meth_ c_ B hr hnm ls hl hM
  have hx := B.1
  have hb := B.2.1
  refine lv_iload_n hx hb dX0_made_0 rfl (lv_at hl 1 rfl) ?_
  rcases kd_cases hkd with rfl | rfl | rfl | rfl | rfl | rfl
  · refine lv_tableIn (tgt := 36) (off := 35) hx hb dX0_made_1 (by decide) (by decide) rfl (by decide) ?_
    refine r_newS B hM (ci := 4) rfl dfl_4 q281 q282 q76 (Nat.le_of_ble_eq_true rfl) (Nat.le_of_ble_eq_true rfl) dX0_made_36 (fun b H hnb hfb hz hM => ?_)
    refine lv_dup hx hb dX0_made_39 rfl ?_
    refine lv_aload_n hx hb dX0_made_40 rfl (lv_at hl 0 rfl) ?_
    refine k_vG (r_IN (As := [.ref A.x]) (rest := [.ref b]) B hM (ok_X4_init (kd := 0) (va_up_self _ _ _) (by decide)) cal_X4_init q283 rfl hl.1 (Nat.le_of_ble_eq_true rfl) dX0_made_41 ⟨Nat.le_of_ble_eq_true rfl, Nat.le_of_ble_eq_true rfl⟩ ⟨Nat.le_of_ble_eq_true rfl, Nat.le_of_ble_eq_true rfl⟩) hM (fun th2 rh2 ph2 ka2 H locs hI hM => ?_)
    refine W.widen (k := 2) (n := 9) (Nat.le_of_ble_eq_true rfl) (Nat.le_of_ble_eq_true rfl) ?_
    refine r_aretG (some b) rfl B hr (Or.inl ⟨_, rfl⟩) hM dX0_made_44 ?_
    obtain ⟨w, hw⟩ := IniC.new (kd := 0) hnb hI
    exact ⟨b, w, rfl, hw⟩
  · refine lv_tableIn (tgt := 45) (off := 44) hx hb dX0_made_1 (by decide) (by decide) rfl (by decide) ?_
    refine r_newS B hM (ci := 5) rfl dfl_5 q305 q306 q77 (Nat.le_of_ble_eq_true rfl) (Nat.le_of_ble_eq_true rfl) dX0_made_45 (fun b H hnb hfb hz hM => ?_)
    refine lv_dup hx hb dX0_made_48 rfl ?_
    refine lv_aload_n hx hb dX0_made_49 rfl (lv_at hl 0 rfl) ?_
    refine k_vG (r_IN2 (As := [.ref A.x]) (rest := [.ref b]) B hM hz (ok_X5_init (kd := 1) (va_up_self _ _ _) (by decide) rfl q306 q312) cal_X5_init q307 rfl hl.1 (Nat.le_of_ble_eq_true rfl) dX0_made_50 ⟨Nat.le_of_ble_eq_true rfl, Nat.le_of_ble_eq_true rfl⟩ ⟨Nat.le_of_ble_eq_true rfl, Nat.le_of_ble_eq_true rfl⟩) hM (fun th2 rh2 ph2 ka2 H locs hI hM => ?_)
    refine W.widen (k := 2) (n := 9) (Nat.le_of_ble_eq_true rfl) (Nat.le_of_ble_eq_true rfl) ?_
    refine r_aretG (some b) rfl B hr (Or.inl ⟨_, rfl⟩) hM dX0_made_53 ?_
    obtain ⟨w, hw⟩ := IniC.new (kd := 1) hnb hI
    exact ⟨b, w, rfl, hw⟩
  · refine lv_tableIn (tgt := 54) (off := 53) hx hb dX0_made_1 (by decide) (by decide) rfl (by decide) ?_
    refine r_newS B hM (ci := 6) rfl dfl_6 q319 q320 q78 (Nat.le_of_ble_eq_true rfl) (Nat.le_of_ble_eq_true rfl) dX0_made_54 (fun b H hnb hfb hz hM => ?_)
    refine lv_dup hx hb dX0_made_57 rfl ?_
    refine lv_aload_n hx hb dX0_made_58 rfl (lv_at hl 0 rfl) ?_
    refine k_vG (r_IN2 (As := [.ref A.x]) (rest := [.ref b]) B hM hz (ok_X6_init (kd := 2) (va_up_self _ _ _) (by decide) rfl q320 q326) cal_X6_init q321 rfl hl.1 (Nat.le_of_ble_eq_true rfl) dX0_made_59 ⟨Nat.le_of_ble_eq_true rfl, Nat.le_of_ble_eq_true rfl⟩ ⟨Nat.le_of_ble_eq_true rfl, Nat.le_of_ble_eq_true rfl⟩) hM (fun th2 rh2 ph2 ka2 H locs hI hM => ?_)
    refine W.widen (k := 2) (n := 9) (Nat.le_of_ble_eq_true rfl) (Nat.le_of_ble_eq_true rfl) ?_
    refine r_aretG (some b) rfl B hr (Or.inl ⟨_, rfl⟩) hM dX0_made_62 ?_
    obtain ⟨w, hw⟩ := IniC.new (kd := 2) hnb hI
    exact ⟨b, w, rfl, hw⟩
  · refine lv_tableIn (tgt := 63) (off := 62) hx hb dX0_made_1 (by decide) (by decide) rfl (by decide) ?_
    refine r_newS B hM (ci := 7) rfl dfl_7 q333 q334 q79 (Nat.le_of_ble_eq_true rfl) (Nat.le_of_ble_eq_true rfl) dX0_made_63 (fun b H hnb hfb hz hM => ?_)
    refine lv_dup hx hb dX0_made_66 rfl ?_
    refine lv_aload_n hx hb dX0_made_67 rfl (lv_at hl 0 rfl) ?_
    refine k_vG (r_IN2 (As := [.ref A.x]) (rest := [.ref b]) B hM hz (ok_X7_init (kd := 3) (va_up_self _ _ _) (by decide) rfl q334 q340 q342) cal_X7_init q335 rfl hl.1 (Nat.le_of_ble_eq_true rfl) dX0_made_68 ⟨Nat.le_of_ble_eq_true rfl, Nat.le_of_ble_eq_true rfl⟩ ⟨Nat.le_of_ble_eq_true rfl, Nat.le_of_ble_eq_true rfl⟩) hM (fun th2 rh2 ph2 ka2 H locs hI hM => ?_)
    refine W.widen (k := 2) (n := 9) (Nat.le_of_ble_eq_true rfl) (Nat.le_of_ble_eq_true rfl) ?_
    refine r_aretG (some b) rfl B hr (Or.inl ⟨_, rfl⟩) hM dX0_made_71 ?_
    obtain ⟨w, hw⟩ := IniC.new (kd := 3) hnb hI
    exact ⟨b, w, rfl, hw⟩
  · refine lv_tableIn (tgt := 72) (off := 71) hx hb dX0_made_1 (by decide) (by decide) rfl (by decide) ?_
    refine r_newS B hM (ci := 8) rfl dfl_8 q348 q349 q80 (Nat.le_of_ble_eq_true rfl) (Nat.le_of_ble_eq_true rfl) dX0_made_72 (fun b H hnb hfb hz hM => ?_)
    refine lv_dup hx hb dX0_made_75 rfl ?_
    refine lv_aload_n hx hb dX0_made_76 rfl (lv_at hl 0 rfl) ?_
    refine k_vG (r_IN2 (As := [.ref A.x]) (rest := [.ref b]) B hM hz (ok_X8_init (kd := 4) (va_up_self _ _ _) (by decide) rfl q349 q355 q357) cal_X8_init q350 rfl hl.1 (Nat.le_of_ble_eq_true rfl) dX0_made_77 ⟨Nat.le_of_ble_eq_true rfl, Nat.le_of_ble_eq_true rfl⟩ ⟨Nat.le_of_ble_eq_true rfl, Nat.le_of_ble_eq_true rfl⟩) hM (fun th2 rh2 ph2 ka2 H locs hI hM => ?_)
    refine W.widen (k := 2) (n := 9) (Nat.le_of_ble_eq_true rfl) (Nat.le_of_ble_eq_true rfl) ?_
    refine r_aretG (some b) rfl B hr (Or.inl ⟨_, rfl⟩) hM dX0_made_80 ?_
    obtain ⟨w, hw⟩ := IniC.new (kd := 4) hnb hI
    exact ⟨b, w, rfl, hw⟩
  · refine lv_tableOut (tgt := 81) hx hb dX0_made_1 (by decide) (by decide) ?_
    refine r_newS B hM (ci := 9) rfl dfl_9 q363 q364 q81 (Nat.le_of_ble_eq_true rfl) (Nat.le_of_ble_eq_true rfl) dX0_made_81 (fun b H hnb hfb hz hM => ?_)
    refine lv_dup hx hb dX0_made_84 rfl ?_
    refine lv_aload_n hx hb dX0_made_85 rfl (lv_at hl 0 rfl) ?_
    refine k_vG (r_IN2 (As := [.ref A.x]) (rest := [.ref b]) B hM hz (ok_X9_init (kd := 5) (va_up_self _ _ _) (by decide) rfl q364 q370) cal_X9_init q365 rfl hl.1 (Nat.le_of_ble_eq_true rfl) dX0_made_86 ⟨Nat.le_of_ble_eq_true rfl, Nat.le_of_ble_eq_true rfl⟩ ⟨Nat.le_of_ble_eq_true rfl, Nat.le_of_ble_eq_true rfl⟩) hM (fun th2 rh2 ph2 ka2 H locs hI hM => ?_)
    refine W.widen (k := 2) (n := 9) (Nat.le_of_ble_eq_true rfl) (Nat.le_of_ble_eq_true rfl) ?_
    refine r_aretG (some b) rfl B hr (Or.inl ⟨_, rfl⟩) hM dX0_made_89 ?_
    obtain ⟨w, hw⟩ := IniC.new (kd := 5) hnb hI
    exact ⟨b, w, rfl, hw⟩
/-- a cellar becomes like another one -/
def likeK (ka : Ka) (P Q P2 Q2 : Nat) : Ka := up1 (up2 (up2 ka P 0 (ka P2 0)) P 1 (ka P2 1)) Q (va_cpy (ka Q2) (ka Q) 0 0 3)
set_option maxHeartbeats 4000000 in
theorem ok_X4_like (hC : LayC th rh x c w P Q kd) {o w2 P2 Q2 kd2 : Nat} (hD : LayC th rh x o w2 P2 Q2 kd2) (hPQ : P ≠ Q) (hPQ2 : P ≠ Q2) (hP : P ≠ P2) (hQP : Q ≠ P2) : Met l yX4_like (ws_ yX4_like cX4_like 2 (some (.object "LevelCellars$Cellar"))) (RM 1 0 0) (Pc_ G [.ref c, .ref o] th rh ph ka) (QGr G (fun r th' rh' ph' ka' => r = some c ∧ th' = th ∧ rh' = rh ∧ ph' = ph ∧ ka' = likeK ka P Q P2 Q2)) 0 0 (frG G) := by
  refine m_of (by decide) (Nat.le_of_ble_eq_true rfl) ?_
  intro p_ e_ s_ m_ below_ meth_ c_ B hr hnm ls hl hM
  have hx := B.1
  have hb := B.2.1
  have hM := hM
  obtain ⟨rc, hr_, hrN, hr0, hr1, hr2, hr3, hg0, hg1, hg2, hg3, hrC⟩ := gC4 hC.2.2.2.2
  obtain ⟨rcb, hr_b, hrNb, hr0b, hr1b, hr2b, hr3b, hg0b, hg1b, hg2b, hg3b, hrCb⟩ := gC4 hD.2.2.2.2
  refine lv_aload_n hx hb dX4_like_0 rfl (lv_at hl 0 rfl) ?_
  refine lv_aload_n hx hb dX4_like_1 rfl (lv_at hl 1 rfl) ?_
  refine r_geti B hM 0 hD.1 hr_b (by rw [hrNb]; decide) hr0b hg0b q287 dX4_like_2 ?_
  refine r_puti B hM 0 hC.1 hr_ (by rw [hrN]; decide) hr0 hg0 q287 dX4_like_5 (fun ka_1 H locs eka_1 hM => ?_)
  refine lv_aload_n hx hb dX4_like_8 rfl (lv_at hl 0 rfl) ?_
  refine lv_aload_n hx hb dX4_like_9 rfl (lv_at hl 1 rfl) ?_
  refine r_geti B hM 1 hD.1 hr_b (by rw [hrNb]; decide) hr1b hg1b q289 dX4_like_10 ?_
  refine r_topv (v := ka P2 1) (by rw [eka_1, up2_a _ _ _ (Ne.symm hP)]) ?_
  refine r_puti B hM 1 hC.1 hr_ (by rw [hrN]; decide) hr1 hg1 q289 dX4_like_13 (fun ka_2 H locs eka_2 hM => ?_)
  refine lv_aload_n hx hb dX4_like_16 rfl (lv_at hl 1 rfl) ?_
  refine r_getq B hM 2 hD.1 hr_b (by rw [hrNb]; decide) hr2b hg2b hD.2.1 q292 dX4_like_17 ?_
  refine lv_iconst (v := 0) hx hb dX4_like_20 (by decide) ?_
  refine lv_aload_n hx hb dX4_like_21 rfl (lv_at hl 0 rfl) ?_
  refine r_getq B hM 2 hC.1 hr_ (by rw [hrN]; decide) hr2 hg2 hC.2.1 q292 dX4_like_22 ?_
  refine lv_iconst (v := 0) hx hb dX4_like_25 (by decide) ?_
  refine lv_iconst (v := 3) hx hb dX4_like_26 (by decide) ?_
  refine r_cpi (ty := .int) B hM hD.2.2.2.1 hC.2.2.2.1 rfl (by decide) 0 0 3 (by decide) (by decide) (by decide) (by decide) (by decide) (fun _ _ => rfl) q721 hl.1 (Nat.le_of_ble_eq_true rfl) (Nat.le_of_ble_eq_true rfl) dX4_like_27 (fun ka_3 H locs eka_3 hM => ?_)
  refine lv_aload_n hx hb dX4_like_30 rfl (lv_at hl 0 rfl) ?_
  refine r_aretG (some c) rfl B hr (Or.inl ⟨_, rfl⟩) hM dX4_like_31 ?_
  refine ⟨rfl, rfl, rfl, rfl, ?_⟩
  unfold likeK
  rw [eka_3, eka_2, eka_1, up2_a _ _ _ (Ne.symm hPQ2), up2_a _ _ _ (Ne.symm hPQ2), up2_a _ _ _ (Ne.symm hPQ), up2_a _ _ _ (Ne.symm hPQ)]
theorem v_like (hC : LayC th rh x c w P Q kd) {o w2 P2 Q2 kd2 : Nat} (hD : LayC th rh x o w2 P2 Q2 kd2) (hPQ : P ≠ Q) (hPQ2 : P ≠ Q2) (hP : P ≠ P2) (hQP : Q ≠ P2) : VirtAt l G yX4_like c [.ref o] (some (.object "LevelCellars$Cellar")) 1 1 0 0 th rh ph ka (QGr G (fun r th' rh' ph' ka' => r = some c ∧ th' = th ∧ rh' = rh ∧ ph' = ph ∧ ka' = likeK ka P Q P2 Q2)) := by
  have hk := hC.2.2.2.2
  rcases kd_cases hk with rfl | rfl | rfl | rfl | rfl | rfl
  · exact ⟨yX4_like, cX4_like, 2, P, _, _, _, hC.1, rfl, calU_like_0, by decide, ok_X4_like hC hD hPQ hPQ2 hP hQP⟩
  · exact ⟨yX4_like, cX4_like, 2, P, _, _, _, hC.1, rfl, calU_like_1, by decide, ok_X4_like hC hD hPQ hPQ2 hP hQP⟩
  · exact ⟨yX4_like, cX4_like, 2, P, _, _, _, hC.1, rfl, calU_like_2, by decide, ok_X4_like hC hD hPQ hPQ2 hP hQP⟩
  · exact ⟨yX4_like, cX4_like, 2, P, _, _, _, hC.1, rfl, calU_like_3, by decide, ok_X4_like hC hD hPQ hPQ2 hP hQP⟩
  · exact ⟨yX4_like, cX4_like, 2, P, _, _, _, hC.1, rfl, calU_like_4, by decide, ok_X4_like hC hD hPQ hPQ2 hP hQP⟩
  · exact ⟨yX4_like, cX4_like, 2, P, _, _, _, hC.1, rfl, calU_like_5, by decide, ok_X4_like hC hD hPQ hPQ2 hP hQP⟩
end

/-! MissCurvesModel -/
set_option maxRecDepth 100000
def RX7 : String := "MissCurvesModel"
def TX7 : u_T := fun k => match k with
  | 0 => ("MissCurvesModel", "status", "I", false)
  | 1 => ("MissCurvesModel", "refused", "[I", true)
  | 2 => ("MissCurvesModel", "kept", "[I", true)
  | 3 => ("MissCurvesModel", "parts", "[J", true)
  | 4 => ("MissCurvesModel", "images", "[I", true)
  | 5 => ("MissCurvesModel", "imageParts", "[J", true)
  | 6 => ("MissCurvesModel", "hasImage", "[Z", true)
  | 7 => ("MissCurvesModel", "aside", "[I", true)
  | 8 => ("MissCurvesModel", "asideParts", "[J", true)
  | 9 => ("MissCurvesModel", "blanks0", "I", false)
  | 10 => ("MissCurvesModel", "words", "[B", true)
  | 11 => ("MissCurvesModel", "firstWord", "I", false)
  | 12 => ("MissCurvesModel", "lastWord", "I", false)
  | 13 => ("MissCurvesModel", "isOrders", "Z", false)
  | 14 => ("MissCurvesModel", "tape", "[B", true)
  | 15 => ("MissCurvesModel", "five", "[I", true)
  | 16 => ("MissCurvesModel", "taped", "I", false)
  | 17 => ("MissCurvesModel", "fault", "I", false)
  | 18 => ("MissCurvesModel", "code", "[I", true)
  | 19 => ("MissCurvesModel", "value", "[I", true)
  | 20 => ("MissCurvesModel", "placed", "[I", true)
  | 21 => ("MissCurvesModel", "tokens", "I", false)
  | 22 => ("MissCurvesModel", "token", "I", false)
  | 23 => ("MissCurvesModel", "leaves", "I", false)
  | 24 => ("MissCurvesModel", "bad", "I", false)
  | 25 => ("MissCurvesModel", "go", "I", false)
  | 26 => ("MissCurvesModel", "goEnd", "I", false)
  | 27 => ("MissCurvesModel", "broken", "Z", false)
  | 28 => ("MissCurvesModel", "inOrders", "Z", false)
  | 29 => ("MissCurvesModel", "asked", "[I", true)
  | 30 => ("MissCurvesModel", "orderDone", "I", false)
  | 31 => ("MissCurvesModel", "orderLatest", "I", false)
  | 32 => ("MissCurvesModel", "left0", "[I", true)
  | 33 => ("MissCurvesModel", "leftParts", "[J", true)
  | 34 => ("MissCurvesModel", "leftAhead", "[I", true)
  | 35 => ("MissCurvesModel", "leftPartsAhead", "[J", true)
  | 36 => ("MissCurvesModel", "undoMany", "I", false)
  | 37 => ("MissCurvesModel", "missed", "[I", true)
  | 38 => ("MissCurvesModel", "bends", "[I", true)
  | 39 => ("MissCurvesModel", "bendMany", "[I", true)
  | 40 => ("MissCurvesModel", "reported", "[B", true)
  | 41 => ("MissCurvesModel", "digits", "[B", true)
  | 42 => ("MissCurvesModel", "reportMany", "I", false)
  | 43 => ("MissCurvesModel", "gets", "[I", true)
  | 44 => ("MissCurvesModel", "falls", "J", false)
  | 45 => ("MissCurvesModel", "fallsBy", "I", false)
  | 46 => ("MissCurvesModel", "fewest", "[I", true)
  | 47 => ("MissCurvesModel", "first", "[I", true)
  | 48 => ("MissCurvesModel", "lastRead", "[I", true)
  | 49 => ("MissCurvesModel", "oftenRead", "[I", true)
  | 50 => ("MissCurvesModel", "holds", "[J", true)
  | 51 => ("MissCurvesModel", "since", "[I", true)
  | 52 => ("MissCurvesModel", "missesWith", "[I", true)
  | 53 => ("MissCurvesModel", "shares", "[J", true)
  | 54 => ("MissCurvesModel", "stopped0", "I", false)
  | 55 => ("MissCurvesModel", "orderAt", "I", false)
  | 56 => ("MissCurvesModel", "howOften", "I", false)
  | 57 => ("MissCurvesModel", "head", "I", false)
  | 58 => ("MissCurvesModel", "sumsAre", "Z", false)
  | 59 => ("MissCurvesModel", "testIs", "Z", false)
  | 60 => ("MissCurvesModel", "sums", "[J", true)
  | 61 => ("MissCurvesModel", "drawnMisses", "[I", true)
  | 62 => ("MissCurvesModel", "hasDrawn", "Z", false)
  | _ => ("MissCurvesModel", "latest", "I", false)
def tyX7 : Nat → FieldType := fun k => match k with
  | 0 => .int
  | 1 => .array .int
  | 2 => .array .int
  | 3 => .array .long
  | 4 => .array .int
  | 5 => .array .long
  | 6 => .array .boolean
  | 7 => .array .int
  | 8 => .array .long
  | 9 => .int
  | 10 => .array .byte
  | 11 => .int
  | 12 => .int
  | 13 => .boolean
  | 14 => .array .byte
  | 15 => .array .int
  | 16 => .int
  | 17 => .int
  | 18 => .array .int
  | 19 => .array .int
  | 20 => .array .int
  | 21 => .int
  | 22 => .int
  | 23 => .int
  | 24 => .int
  | 25 => .int
  | 26 => .int
  | 27 => .boolean
  | 28 => .boolean
  | 29 => .array .int
  | 30 => .int
  | 31 => .int
  | 32 => .array .int
  | 33 => .array .long
  | 34 => .array .int
  | 35 => .array .long
  | 36 => .int
  | 37 => .array .int
  | 38 => .array .int
  | 39 => .array .int
  | 40 => .array .byte
  | 41 => .array .byte
  | 42 => .int
  | 43 => .array .int
  | 44 => .long
  | 45 => .int
  | 46 => .array .int
  | 47 => .array .int
  | 48 => .array .int
  | 49 => .array .int
  | 50 => .array .long
  | 51 => .array .int
  | 52 => .array .int
  | 53 => .array .long
  | 54 => .int
  | 55 => .int
  | 56 => .int
  | 57 => .int
  | 58 => .boolean
  | 59 => .boolean
  | 60 => .array .long
  | 61 => .array .int
  | 62 => .boolean
  | _ => .int
abbrev wsX70 : List Cond := u_ws RX7 TX7 64
set_option maxRecDepth 100000 in
theorem nmX7 : ∀ a, a < 64 → ∀ b, b < 64 → a ≠ b → (TX7 a).2.1 ≠ (TX7 b).2.1 := by decide +kernel
set_option maxRecDepth 100000 in
theorem tyX7_ok : ∀ k, k < 64 → parseFieldDescriptor (TX7 k).2.2.1 = some (tyX7 k) := by decide +kernel
abbrev cX7_init : ByteArray := prog_32_method_10_code
def yX7_init : MethodName := ⟨RX7, "<init>", "()V"⟩
def dkwX7_init_46 : List UInt8 := [42, 180, 0, 28, 17, 1, 131, 2, 79, 42, 182, 0, 139, 177]
abbrev dktX7_init_46 : List UInt8 := dkwX7_init_46 ++ []
def dkwX7_init_45 : List UInt8 := [42, 6, 188, 11, 181, 0, 133, 42, 16, 100, 188, 10, 181, 0, 136, 42, 180, 0, 28, 17, 1, 126, 4, 79]
abbrev dktX7_init_45 : List UInt8 := dkwX7_init_45 ++ dktX7_init_46
def dkwX7_init_44 : List UInt8 := [181, 0, 121, 42, 16, 25, 188, 10, 181, 0, 124, 42, 16, 21, 188, 11, 181, 0, 127, 42, 2, 181, 0, 130]
abbrev dktX7_init_44 : List UInt8 := dkwX7_init_44 ++ dktX7_init_45
def dkwX7_init_43 : List UInt8 := [42, 16, 32, 188, 10, 181, 0, 115, 42, 16, 25, 188, 11, 181, 0, 118, 42, 17, 3, 32, 188, 10]
abbrev dktX7_init_43 : List UInt8 := dkwX7_init_43 ++ dktX7_init_44
def dkwX7_init_42 : List UInt8 := [17, 0, 245, 188, 10, 181, 0, 106, 42, 16, 32, 188, 10, 181, 0, 109, 42, 16, 32, 188, 10, 181, 0, 112]
abbrev dktX7_init_42 : List UInt8 := dkwX7_init_42 ++ dktX7_init_43
def dkwX7_init_41 : List UInt8 := [17, 1, 144, 188, 8, 181, 0, 97, 42, 16, 12, 188, 8, 181, 0, 100, 42, 7, 188, 10, 181, 0, 103, 42]
abbrev dktX7_init_41 : List UInt8 := dkwX7_init_41 ++ dktX7_init_42
def dkwX7_init_40 : List UInt8 := [16, 100, 188, 10, 181, 0, 88, 42, 16, 100, 188, 10, 181, 0, 91, 42, 7, 188, 10, 181, 0, 94, 42]
abbrev dktX7_init_40 : List UInt8 := dkwX7_init_40 ++ dktX7_init_41
def dkwX7_init_39 : List UInt8 := [188, 11, 181, 0, 79, 42, 17, 23, 32, 188, 10, 181, 0, 82, 42, 17, 6, 64, 188, 11, 181, 0, 85, 42]
abbrev dktX7_init_39 : List UInt8 := dkwX7_init_39 ++ dktX7_init_40
def dkwX7_init_38 : List UInt8 := [181, 0, 70, 42, 16, 6, 188, 10, 181, 0, 73, 42, 17, 23, 32, 188, 10, 181, 0, 76, 42, 17, 6, 64]
abbrev dktX7_init_38 : List UInt8 := dkwX7_init_38 ++ dktX7_init_39
def dkwX7_init_37 : List UInt8 := [42, 17, 1, 145, 188, 10, 181, 0, 64, 42, 17, 1, 145, 188, 10, 181, 0, 67, 42, 17, 1, 145, 188, 10]
abbrev dktX7_init_37 : List UInt8 := dkwX7_init_37 ++ dktX7_init_38
def dkwX7_init_36 : List UInt8 := [181, 0, 51, 42, 17, 1, 144, 188, 8, 181, 0, 55, 42, 8, 188, 10, 181, 0, 58, 42, 2, 181, 0, 61]
abbrev dktX7_init_36 : List UInt8 := dkwX7_init_36 ++ dktX7_init_37
def dkwX7_init_35 : List UInt8 := [84, 89, 17, 0, 128, 16, 105, 84, 89, 17, 0, 129, 16, 110, 84, 89, 17, 0, 130, 16, 32, 84]
abbrev dktX7_init_35 : List UInt8 := dkwX7_init_35 ++ dktX7_init_36
def dkwX7_init_34 : List UInt8 := [84, 89, 16, 124, 16, 102, 84, 89, 16, 125, 16, 117, 84, 89, 16, 126, 16, 32, 84, 89, 16, 127, 16, 109]
abbrev dktX7_init_34 : List UInt8 := dkwX7_init_34 ++ dktX7_init_35
def dkwX7_init_33 : List UInt8 := [84, 89, 16, 120, 16, 102, 84, 89, 16, 121, 16, 111, 84, 89, 16, 122, 16, 32, 84, 89, 16, 123, 16, 108]
abbrev dktX7_init_33 : List UInt8 := dkwX7_init_33 ++ dktX7_init_34
def dkwX7_init_32 : List UInt8 := [84, 89, 16, 116, 16, 117, 84, 89, 16, 117, 16, 32, 84, 89, 16, 118, 16, 102, 84, 89, 16, 119, 16, 105]
abbrev dktX7_init_32 : List UInt8 := dkwX7_init_32 ++ dktX7_init_33
def dkwX7_init_31 : List UInt8 := [84, 89, 16, 112, 16, 117, 84, 89, 16, 113, 16, 32, 84, 89, 16, 114, 16, 109, 84, 89, 16, 115, 16, 114]
abbrev dktX7_init_31 : List UInt8 := dkwX7_init_31 ++ dktX7_init_32
def dkwX7_init_30 : List UInt8 := [84, 89, 16, 108, 16, 115, 84, 89, 16, 109, 16, 32, 84, 89, 16, 110, 16, 108, 84, 89, 16, 111, 16, 114]
abbrev dktX7_init_30 : List UInt8 := dkwX7_init_30 ++ dktX7_init_31
def dkwX7_init_29 : List UInt8 := [84, 89, 16, 104, 16, 116, 84, 89, 16, 105, 16, 105, 84, 89, 16, 106, 16, 109, 84, 89, 16, 107, 16, 101]
abbrev dktX7_init_29 : List UInt8 := dkwX7_init_29 ++ dktX7_init_30
def dkwX7_init_28 : List UInt8 := [84, 89, 16, 100, 16, 97, 84, 89, 16, 101, 16, 115, 84, 89, 16, 102, 16, 115, 84, 89, 16, 103, 16, 32]
abbrev dktX7_init_28 : List UInt8 := dkwX7_init_28 ++ dktX7_init_29
def dkwX7_init_27 : List UInt8 := [84, 89, 16, 96, 16, 111, 84, 89, 16, 97, 16, 112, 84, 89, 16, 98, 16, 32, 84, 89, 16, 99, 16, 112]
abbrev dktX7_init_27 : List UInt8 := dkwX7_init_27 ++ dktX7_init_28
def dkwX7_init_26 : List UInt8 := [84, 89, 16, 92, 16, 111, 84, 89, 16, 93, 16, 32, 84, 89, 16, 94, 16, 100, 84, 89, 16, 95, 16, 114]
abbrev dktX7_init_26 : List UInt8 := dkwX7_init_26 ++ dktX7_init_27
def dkwX7_init_25 : List UInt8 := [84, 89, 16, 88, 16, 111, 84, 89, 16, 89, 16, 112, 84, 89, 16, 90, 16, 32, 84, 89, 16, 91, 16, 116]
abbrev dktX7_init_25 : List UInt8 := dkwX7_init_25 ++ dktX7_init_26
def dkwX7_init_24 : List UInt8 := [84, 89, 16, 84, 16, 121, 84, 89, 16, 85, 16, 32, 84, 89, 16, 86, 16, 108, 84, 89, 16, 87, 16, 111]
abbrev dktX7_init_24 : List UInt8 := dkwX7_init_24 ++ dktX7_init_25
def dkwX7_init_23 : List UInt8 := [84, 89, 16, 80, 16, 97, 84, 89, 16, 81, 16, 100, 84, 89, 16, 82, 16, 32, 84, 89, 16, 83, 16, 98]
abbrev dktX7_init_23 : List UInt8 := dkwX7_init_23 ++ dktX7_init_24
def dkwX7_init_22 : List UInt8 := [84, 89, 16, 76, 16, 112, 84, 89, 16, 77, 16, 32, 84, 89, 16, 78, 16, 114, 84, 89, 16, 79, 16, 101]
abbrev dktX7_init_22 : List UInt8 := dkwX7_init_22 ++ dktX7_init_23
def dkwX7_init_21 : List UInt8 := [84, 89, 16, 72, 16, 32, 84, 89, 16, 73, 16, 100, 84, 89, 16, 74, 16, 101, 84, 89, 16, 75, 16, 101]
abbrev dktX7_init_21 : List UInt8 := dkwX7_init_21 ++ dktX7_init_22
def dkwX7_init_20 : List UInt8 := [84, 89, 16, 68, 16, 99, 84, 89, 16, 69, 16, 111, 84, 89, 16, 70, 16, 108, 84, 89, 16, 71, 16, 100]
abbrev dktX7_init_20 : List UInt8 := dkwX7_init_20 ++ dktX7_init_21
def dkwX7_init_19 : List UInt8 := [84, 89, 16, 64, 16, 101, 84, 89, 16, 65, 16, 115, 84, 89, 16, 66, 16, 116, 84, 89, 16, 67, 16, 32]
abbrev dktX7_init_19 : List UInt8 := dkwX7_init_19 ++ dktX7_init_20
def dkwX7_init_18 : List UInt8 := [84, 89, 16, 60, 16, 32, 84, 89, 16, 61, 16, 108, 84, 89, 16, 62, 16, 97, 84, 89, 16, 63, 16, 116]
abbrev dktX7_init_18 : List UInt8 := dkwX7_init_18 ++ dktX7_init_19
def dkwX7_init_17 : List UInt8 := [84, 89, 16, 56, 16, 100, 84, 89, 16, 57, 16, 111, 84, 89, 16, 58, 16, 110, 84, 89, 16, 59, 16, 101]
abbrev dktX7_init_17 : List UInt8 := dkwX7_init_17 ++ dktX7_init_18
def dkwX7_init_16 : List UInt8 := [84, 89, 16, 52, 16, 105, 84, 89, 16, 53, 16, 109, 84, 89, 16, 54, 16, 101, 84, 89, 16, 55, 16, 32]
abbrev dktX7_init_16 : List UInt8 := dkwX7_init_16 ++ dktX7_init_17
def dkwX7_init_15 : List UInt8 := [84, 89, 16, 48, 16, 111, 84, 89, 16, 49, 16, 100, 84, 89, 16, 50, 16, 32, 84, 89, 16, 51, 16, 116]
abbrev dktX7_init_15 : List UInt8 := dkwX7_init_15 ++ dktX7_init_16
def dkwX7_init_14 : List UInt8 := [84, 89, 16, 44, 16, 114, 84, 89, 16, 45, 16, 32, 84, 89, 16, 46, 16, 109, 84, 89, 16, 47, 16, 111]
abbrev dktX7_init_14 : List UInt8 := dkwX7_init_14 ++ dktX7_init_15
def dkwX7_init_13 : List UInt8 := [84, 89, 16, 40, 16, 115, 84, 89, 16, 41, 16, 32, 84, 89, 16, 42, 16, 102, 84, 89, 16, 43, 16, 97]
abbrev dktX7_init_13 : List UInt8 := dkwX7_init_13 ++ dktX7_init_14
def dkwX7_init_12 : List UInt8 := [84, 89, 16, 36, 16, 114, 84, 89, 16, 37, 16, 101, 84, 89, 16, 38, 16, 97, 84, 89, 16, 39, 16, 100]
abbrev dktX7_init_12 : List UInt8 := dkwX7_init_12 ++ dktX7_init_13
def dkwX7_init_11 : List UInt8 := [84, 89, 16, 32, 16, 107, 84, 89, 16, 33, 16, 101, 84, 89, 16, 34, 16, 121, 84, 89, 16, 35, 16, 32]
abbrev dktX7_init_11 : List UInt8 := dkwX7_init_11 ++ dktX7_init_12
def dkwX7_init_10 : List UInt8 := [84, 89, 16, 28, 16, 97, 84, 89, 16, 29, 16, 110, 84, 89, 16, 30, 16, 116, 84, 89, 16, 31, 16, 32]
abbrev dktX7_init_10 : List UInt8 := dkwX7_init_10 ++ dktX7_init_11
def dkwX7_init_9 : List UInt8 := [84, 89, 16, 24, 16, 32, 84, 89, 16, 25, 16, 116, 84, 89, 16, 26, 16, 101, 84, 89, 16, 27, 16, 110]
abbrev dktX7_init_9 : List UInt8 := dkwX7_init_9 ++ dktX7_init_10
def dkwX7_init_8 : List UInt8 := [84, 89, 16, 20, 16, 32, 84, 89, 16, 21, 16, 110, 84, 89, 16, 22, 16, 111, 84, 89, 16, 23, 16, 116]
abbrev dktX7_init_8 : List UInt8 := dkwX7_init_8 ++ dktX7_init_9
def dkwX7_init_7 : List UInt8 := [84, 89, 16, 16, 16, 32, 84, 89, 16, 17, 16, 97, 84, 89, 16, 18, 16, 110, 84, 89, 16, 19, 16, 100]
abbrev dktX7_init_7 : List UInt8 := dkwX7_init_7 ++ dktX7_init_8
def dkwX7_init_6 : List UInt8 := [84, 89, 16, 12, 16, 102, 84, 89, 16, 13, 16, 32, 84, 89, 16, 14, 16, 111, 84, 89, 16, 15, 16, 114]
abbrev dktX7_init_6 : List UInt8 := dkwX7_init_6 ++ dktX7_init_7
def dkwX7_init_5 : List UInt8 := [84, 89, 16, 8, 16, 114, 84, 89, 16, 9, 16, 115, 84, 89, 16, 10, 16, 32, 84, 89, 16, 11, 16, 105]
abbrev dktX7_init_5 : List UInt8 := dkwX7_init_5 ++ dktX7_init_6
def dkwX7_init_4 : List UInt8 := [16, 116, 84, 89, 7, 16, 115, 84, 89, 8, 16, 32, 84, 89, 16, 6, 16, 98, 84, 89, 16, 7, 16, 97]
abbrev dktX7_init_4 : List UInt8 := dkwX7_init_4 ++ dktX7_init_5
def dkwX7_init_3 : List UInt8 := [42, 17, 0, 131, 188, 8, 89, 3, 16, 99, 84, 89, 4, 16, 111, 84, 89, 5, 16, 115, 84, 89, 6]
abbrev dktX7_init_3 : List UInt8 := dkwX7_init_3 ++ dktX7_init_4
def dkwX7_init_2 : List UInt8 := [5, 188, 4, 181, 0, 41, 42, 17, 2, 226, 188, 10, 181, 0, 45, 42, 17, 0, 200, 188, 11, 181, 0, 48]
abbrev dktX7_init_2 : List UInt8 := dkwX7_init_2 ++ dktX7_init_3
def dkwX7_init_1 : List UInt8 := [188, 11, 181, 0, 31, 42, 17, 46, 214, 188, 10, 181, 0, 35, 42, 17, 0, 200, 188, 11, 181, 0, 38, 42]
abbrev dktX7_init_1 : List UInt8 := dkwX7_init_1 ++ dktX7_init_2
def dkwX7_init_0 : List UInt8 := [42, 183, 0, 22, 42, 16, 7, 188, 10, 181, 0, 7, 42, 17, 23, 107, 188, 10, 181, 0, 28, 42, 16, 100]
abbrev dktX7_init_0 : List UInt8 := dkwX7_init_0 ++ dktX7_init_1
theorem dksX7_init_0 : cX7_init.data.toList.drop 0 = dktX7_init_0 := by decide +kernel
theorem dksX7_init_1 : cX7_init.data.toList.drop 24 = dktX7_init_1 := dk_seg dksX7_init_0 24 rfl rfl
theorem dksX7_init_2 : cX7_init.data.toList.drop 48 = dktX7_init_2 := dk_seg dksX7_init_1 24 rfl rfl
theorem dksX7_init_3 : cX7_init.data.toList.drop 72 = dktX7_init_3 := dk_seg dksX7_init_2 24 rfl rfl
theorem dksX7_init_4 : cX7_init.data.toList.drop 95 = dktX7_init_4 := dk_seg dksX7_init_3 23 rfl rfl
theorem dksX7_init_5 : cX7_init.data.toList.drop 119 = dktX7_init_5 := dk_seg dksX7_init_4 24 rfl rfl
theorem dksX7_init_6 : cX7_init.data.toList.drop 143 = dktX7_init_6 := dk_seg dksX7_init_5 24 rfl rfl
theorem dksX7_init_7 : cX7_init.data.toList.drop 167 = dktX7_init_7 := dk_seg dksX7_init_6 24 rfl rfl
theorem dksX7_init_8 : cX7_init.data.toList.drop 191 = dktX7_init_8 := dk_seg dksX7_init_7 24 rfl rfl
theorem dksX7_init_9 : cX7_init.data.toList.drop 215 = dktX7_init_9 := dk_seg dksX7_init_8 24 rfl rfl
theorem dksX7_init_10 : cX7_init.data.toList.drop 239 = dktX7_init_10 := dk_seg dksX7_init_9 24 rfl rfl
theorem dksX7_init_11 : cX7_init.data.toList.drop 263 = dktX7_init_11 := dk_seg dksX7_init_10 24 rfl rfl
theorem dksX7_init_12 : cX7_init.data.toList.drop 287 = dktX7_init_12 := dk_seg dksX7_init_11 24 rfl rfl
theorem dksX7_init_13 : cX7_init.data.toList.drop 311 = dktX7_init_13 := dk_seg dksX7_init_12 24 rfl rfl
theorem dksX7_init_14 : cX7_init.data.toList.drop 335 = dktX7_init_14 := dk_seg dksX7_init_13 24 rfl rfl
theorem dksX7_init_15 : cX7_init.data.toList.drop 359 = dktX7_init_15 := dk_seg dksX7_init_14 24 rfl rfl
theorem dksX7_init_16 : cX7_init.data.toList.drop 383 = dktX7_init_16 := dk_seg dksX7_init_15 24 rfl rfl
theorem dksX7_init_17 : cX7_init.data.toList.drop 407 = dktX7_init_17 := dk_seg dksX7_init_16 24 rfl rfl
theorem dksX7_init_18 : cX7_init.data.toList.drop 431 = dktX7_init_18 := dk_seg dksX7_init_17 24 rfl rfl
theorem dksX7_init_19 : cX7_init.data.toList.drop 455 = dktX7_init_19 := dk_seg dksX7_init_18 24 rfl rfl
theorem dksX7_init_20 : cX7_init.data.toList.drop 479 = dktX7_init_20 := dk_seg dksX7_init_19 24 rfl rfl
theorem dksX7_init_21 : cX7_init.data.toList.drop 503 = dktX7_init_21 := dk_seg dksX7_init_20 24 rfl rfl
theorem dksX7_init_22 : cX7_init.data.toList.drop 527 = dktX7_init_22 := dk_seg dksX7_init_21 24 rfl rfl
theorem dksX7_init_23 : cX7_init.data.toList.drop 551 = dktX7_init_23 := dk_seg dksX7_init_22 24 rfl rfl
theorem dksX7_init_24 : cX7_init.data.toList.drop 575 = dktX7_init_24 := dk_seg dksX7_init_23 24 rfl rfl
theorem dksX7_init_25 : cX7_init.data.toList.drop 599 = dktX7_init_25 := dk_seg dksX7_init_24 24 rfl rfl
theorem dksX7_init_26 : cX7_init.data.toList.drop 623 = dktX7_init_26 := dk_seg dksX7_init_25 24 rfl rfl
theorem dksX7_init_27 : cX7_init.data.toList.drop 647 = dktX7_init_27 := dk_seg dksX7_init_26 24 rfl rfl
theorem dksX7_init_28 : cX7_init.data.toList.drop 671 = dktX7_init_28 := dk_seg dksX7_init_27 24 rfl rfl
theorem dksX7_init_29 : cX7_init.data.toList.drop 695 = dktX7_init_29 := dk_seg dksX7_init_28 24 rfl rfl
theorem dksX7_init_30 : cX7_init.data.toList.drop 719 = dktX7_init_30 := dk_seg dksX7_init_29 24 rfl rfl
theorem dksX7_init_31 : cX7_init.data.toList.drop 743 = dktX7_init_31 := dk_seg dksX7_init_30 24 rfl rfl
theorem dksX7_init_32 : cX7_init.data.toList.drop 767 = dktX7_init_32 := dk_seg dksX7_init_31 24 rfl rfl
theorem dksX7_init_33 : cX7_init.data.toList.drop 791 = dktX7_init_33 := dk_seg dksX7_init_32 24 rfl rfl
theorem dksX7_init_34 : cX7_init.data.toList.drop 815 = dktX7_init_34 := dk_seg dksX7_init_33 24 rfl rfl
theorem dksX7_init_35 : cX7_init.data.toList.drop 839 = dktX7_init_35 := dk_seg dksX7_init_34 24 rfl rfl
theorem dksX7_init_36 : cX7_init.data.toList.drop 861 = dktX7_init_36 := dk_seg dksX7_init_35 22 rfl rfl
theorem dksX7_init_37 : cX7_init.data.toList.drop 885 = dktX7_init_37 := dk_seg dksX7_init_36 24 rfl rfl
theorem dksX7_init_38 : cX7_init.data.toList.drop 909 = dktX7_init_38 := dk_seg dksX7_init_37 24 rfl rfl
theorem dksX7_init_39 : cX7_init.data.toList.drop 933 = dktX7_init_39 := dk_seg dksX7_init_38 24 rfl rfl
theorem dksX7_init_40 : cX7_init.data.toList.drop 957 = dktX7_init_40 := dk_seg dksX7_init_39 24 rfl rfl
theorem dksX7_init_41 : cX7_init.data.toList.drop 980 = dktX7_init_41 := dk_seg dksX7_init_40 23 rfl rfl
theorem dksX7_init_42 : cX7_init.data.toList.drop 1004 = dktX7_init_42 := dk_seg dksX7_init_41 24 rfl rfl
theorem dksX7_init_43 : cX7_init.data.toList.drop 1028 = dktX7_init_43 := dk_seg dksX7_init_42 24 rfl rfl
theorem dksX7_init_44 : cX7_init.data.toList.drop 1050 = dktX7_init_44 := dk_seg dksX7_init_43 22 rfl rfl
theorem dksX7_init_45 : cX7_init.data.toList.drop 1074 = dktX7_init_45 := dk_seg dksX7_init_44 24 rfl rfl
theorem dksX7_init_46 : cX7_init.data.toList.drop 1098 = dktX7_init_46 := dk_seg dksX7_init_45 24 rfl rfl
theorem dX7_init_0 : decode cX7_init 0 = .ok (.aload_n 0, 1) := dk_42 (dk_at dksX7_init_0 0 rfl rfl)
theorem dX7_init_1 : decode cX7_init 1 = .ok (.invokespecial 22, 3) := dk_183 0 22 (dk_at dksX7_init_0 1 rfl rfl)
theorem dX7_init_4 : decode cX7_init 4 = .ok (.aload_n 0, 1) := dk_42 (dk_at dksX7_init_0 4 rfl rfl)
theorem dX7_init_5 : decode cX7_init 5 = .ok (.bipush 7, 2) := dk_16 7 (dk_at dksX7_init_0 5 rfl rfl)
theorem dX7_init_7 : decode cX7_init 7 = .ok (.newarray .int, 2) := dk_188_10 (dk_at dksX7_init_0 7 rfl rfl)
theorem dX7_init_9 : decode cX7_init 9 = .ok (.putfield 7, 3) := dk_181 0 7 (dk_at dksX7_init_0 9 rfl rfl)
theorem dX7_init_12 : decode cX7_init 12 = .ok (.aload_n 0, 1) := dk_42 (dk_at dksX7_init_0 12 rfl rfl)
theorem dX7_init_13 : decode cX7_init 13 = .ok (.sipush 5995, 3) := dk_17 23 107 (dk_at dksX7_init_0 13 rfl rfl)
theorem dX7_init_16 : decode cX7_init 16 = .ok (.newarray .int, 2) := dk_188_10 (dk_at dksX7_init_0 16 rfl rfl)
theorem dX7_init_18 : decode cX7_init 18 = .ok (.putfield 28, 3) := dk_181 0 28 (dk_at dksX7_init_0 18 rfl rfl)
theorem dX7_init_21 : decode cX7_init 21 = .ok (.aload_n 0, 1) := dk_42 (dk_at dksX7_init_0 21 rfl rfl)
theorem dX7_init_22 : decode cX7_init 22 = .ok (.bipush 100, 2) := dk_16 100 (dk_at dksX7_init_0 22 rfl rfl)
theorem dX7_init_24 : decode cX7_init 24 = .ok (.newarray .long, 2) := dk_188_11 (dk_at dksX7_init_1 0 rfl rfl)
theorem dX7_init_26 : decode cX7_init 26 = .ok (.putfield 31, 3) := dk_181 0 31 (dk_at dksX7_init_1 2 rfl rfl)
theorem dX7_init_29 : decode cX7_init 29 = .ok (.aload_n 0, 1) := dk_42 (dk_at dksX7_init_1 5 rfl rfl)
theorem dX7_init_30 : decode cX7_init 30 = .ok (.sipush 11990, 3) := dk_17 46 214 (dk_at dksX7_init_1 6 rfl rfl)
theorem dX7_init_33 : decode cX7_init 33 = .ok (.newarray .int, 2) := dk_188_10 (dk_at dksX7_init_1 9 rfl rfl)
theorem dX7_init_35 : decode cX7_init 35 = .ok (.putfield 35, 3) := dk_181 0 35 (dk_at dksX7_init_1 11 rfl rfl)
theorem dX7_init_38 : decode cX7_init 38 = .ok (.aload_n 0, 1) := dk_42 (dk_at dksX7_init_1 14 rfl rfl)
theorem dX7_init_39 : decode cX7_init 39 = .ok (.sipush 200, 3) := dk_17 0 200 (dk_at dksX7_init_1 15 rfl rfl)
theorem dX7_init_42 : decode cX7_init 42 = .ok (.newarray .long, 2) := dk_188_11 (dk_at dksX7_init_1 18 rfl rfl)
theorem dX7_init_44 : decode cX7_init 44 = .ok (.putfield 38, 3) := dk_181 0 38 (dk_at dksX7_init_1 20 rfl rfl)
theorem dX7_init_47 : decode cX7_init 47 = .ok (.aload_n 0, 1) := dk_42 (dk_at dksX7_init_1 23 rfl rfl)
theorem dX7_init_48 : decode cX7_init 48 = .ok (.iconst 2, 1) := dk_5 (dk_at dksX7_init_2 0 rfl rfl)
theorem dX7_init_49 : decode cX7_init 49 = .ok (.newarray .boolean, 2) := dk_188_4 (dk_at dksX7_init_2 1 rfl rfl)
theorem dX7_init_51 : decode cX7_init 51 = .ok (.putfield 41, 3) := dk_181 0 41 (dk_at dksX7_init_2 3 rfl rfl)
theorem dX7_init_54 : decode cX7_init 54 = .ok (.aload_n 0, 1) := dk_42 (dk_at dksX7_init_2 6 rfl rfl)
theorem dX7_init_55 : decode cX7_init 55 = .ok (.sipush 738, 3) := dk_17 2 226 (dk_at dksX7_init_2 7 rfl rfl)
theorem dX7_init_58 : decode cX7_init 58 = .ok (.newarray .int, 2) := dk_188_10 (dk_at dksX7_init_2 10 rfl rfl)
theorem dX7_init_60 : decode cX7_init 60 = .ok (.putfield 45, 3) := dk_181 0 45 (dk_at dksX7_init_2 12 rfl rfl)
theorem dX7_init_63 : decode cX7_init 63 = .ok (.aload_n 0, 1) := dk_42 (dk_at dksX7_init_2 15 rfl rfl)
theorem dX7_init_64 : decode cX7_init 64 = .ok (.sipush 200, 3) := dk_17 0 200 (dk_at dksX7_init_2 16 rfl rfl)
theorem dX7_init_67 : decode cX7_init 67 = .ok (.newarray .long, 2) := dk_188_11 (dk_at dksX7_init_2 19 rfl rfl)
theorem dX7_init_69 : decode cX7_init 69 = .ok (.putfield 48, 3) := dk_181 0 48 (dk_at dksX7_init_2 21 rfl rfl)
theorem dX7_init_72 : decode cX7_init 72 = .ok (.aload_n 0, 1) := dk_42 (dk_at dksX7_init_3 0 rfl rfl)
theorem dX7_init_73 : decode cX7_init 73 = .ok (.sipush 131, 3) := dk_17 0 131 (dk_at dksX7_init_3 1 rfl rfl)
theorem dX7_init_76 : decode cX7_init 76 = .ok (.newarray .byte, 2) := dk_188_8 (dk_at dksX7_init_3 4 rfl rfl)
theorem dX7_init_78 : decode cX7_init 78 = .ok (.dup, 1) := dk_89 (dk_at dksX7_init_3 6 rfl rfl)
theorem dX7_init_79 : decode cX7_init 79 = .ok (.iconst 0, 1) := dk_3 (dk_at dksX7_init_3 7 rfl rfl)
theorem dX7_init_80 : decode cX7_init 80 = .ok (.bipush 99, 2) := dk_16 99 (dk_at dksX7_init_3 8 rfl rfl)
theorem dX7_init_82 : decode cX7_init 82 = .ok (.bastore, 1) := dk_84 (dk_at dksX7_init_3 10 rfl rfl)
theorem dX7_init_83 : decode cX7_init 83 = .ok (.dup, 1) := dk_89 (dk_at dksX7_init_3 11 rfl rfl)
theorem dX7_init_84 : decode cX7_init 84 = .ok (.iconst 1, 1) := dk_4 (dk_at dksX7_init_3 12 rfl rfl)
theorem dX7_init_85 : decode cX7_init 85 = .ok (.bipush 111, 2) := dk_16 111 (dk_at dksX7_init_3 13 rfl rfl)
theorem dX7_init_87 : decode cX7_init 87 = .ok (.bastore, 1) := dk_84 (dk_at dksX7_init_3 15 rfl rfl)
theorem dX7_init_88 : decode cX7_init 88 = .ok (.dup, 1) := dk_89 (dk_at dksX7_init_3 16 rfl rfl)
theorem dX7_init_89 : decode cX7_init 89 = .ok (.iconst 2, 1) := dk_5 (dk_at dksX7_init_3 17 rfl rfl)
theorem dX7_init_90 : decode cX7_init 90 = .ok (.bipush 115, 2) := dk_16 115 (dk_at dksX7_init_3 18 rfl rfl)
theorem dX7_init_92 : decode cX7_init 92 = .ok (.bastore, 1) := dk_84 (dk_at dksX7_init_3 20 rfl rfl)
theorem dX7_init_93 : decode cX7_init 93 = .ok (.dup, 1) := dk_89 (dk_at dksX7_init_3 21 rfl rfl)
theorem dX7_init_94 : decode cX7_init 94 = .ok (.iconst 3, 1) := dk_6 (dk_at dksX7_init_3 22 rfl rfl)
theorem dX7_init_95 : decode cX7_init 95 = .ok (.bipush 116, 2) := dk_16 116 (dk_at dksX7_init_4 0 rfl rfl)
theorem dX7_init_97 : decode cX7_init 97 = .ok (.bastore, 1) := dk_84 (dk_at dksX7_init_4 2 rfl rfl)
theorem dX7_init_98 : decode cX7_init 98 = .ok (.dup, 1) := dk_89 (dk_at dksX7_init_4 3 rfl rfl)
theorem dX7_init_99 : decode cX7_init 99 = .ok (.iconst 4, 1) := dk_7 (dk_at dksX7_init_4 4 rfl rfl)
theorem dX7_init_100 : decode cX7_init 100 = .ok (.bipush 115, 2) := dk_16 115 (dk_at dksX7_init_4 5 rfl rfl)
theorem dX7_init_102 : decode cX7_init 102 = .ok (.bastore, 1) := dk_84 (dk_at dksX7_init_4 7 rfl rfl)
theorem dX7_init_103 : decode cX7_init 103 = .ok (.dup, 1) := dk_89 (dk_at dksX7_init_4 8 rfl rfl)
theorem dX7_init_104 : decode cX7_init 104 = .ok (.iconst 5, 1) := dk_8 (dk_at dksX7_init_4 9 rfl rfl)
theorem dX7_init_105 : decode cX7_init 105 = .ok (.bipush 32, 2) := dk_16 32 (dk_at dksX7_init_4 10 rfl rfl)
theorem dX7_init_107 : decode cX7_init 107 = .ok (.bastore, 1) := dk_84 (dk_at dksX7_init_4 12 rfl rfl)
theorem dX7_init_108 : decode cX7_init 108 = .ok (.dup, 1) := dk_89 (dk_at dksX7_init_4 13 rfl rfl)
theorem dX7_init_109 : decode cX7_init 109 = .ok (.bipush 6, 2) := dk_16 6 (dk_at dksX7_init_4 14 rfl rfl)
theorem dX7_init_111 : decode cX7_init 111 = .ok (.bipush 98, 2) := dk_16 98 (dk_at dksX7_init_4 16 rfl rfl)
theorem dX7_init_113 : decode cX7_init 113 = .ok (.bastore, 1) := dk_84 (dk_at dksX7_init_4 18 rfl rfl)
theorem dX7_init_114 : decode cX7_init 114 = .ok (.dup, 1) := dk_89 (dk_at dksX7_init_4 19 rfl rfl)
theorem dX7_init_115 : decode cX7_init 115 = .ok (.bipush 7, 2) := dk_16 7 (dk_at dksX7_init_4 20 rfl rfl)
theorem dX7_init_117 : decode cX7_init 117 = .ok (.bipush 97, 2) := dk_16 97 (dk_at dksX7_init_4 22 rfl rfl)
theorem dX7_init_119 : decode cX7_init 119 = .ok (.bastore, 1) := dk_84 (dk_at dksX7_init_5 0 rfl rfl)
theorem dX7_init_120 : decode cX7_init 120 = .ok (.dup, 1) := dk_89 (dk_at dksX7_init_5 1 rfl rfl)
theorem dX7_init_121 : decode cX7_init 121 = .ok (.bipush 8, 2) := dk_16 8 (dk_at dksX7_init_5 2 rfl rfl)
theorem dX7_init_123 : decode cX7_init 123 = .ok (.bipush 114, 2) := dk_16 114 (dk_at dksX7_init_5 4 rfl rfl)
theorem dX7_init_125 : decode cX7_init 125 = .ok (.bastore, 1) := dk_84 (dk_at dksX7_init_5 6 rfl rfl)
theorem dX7_init_126 : decode cX7_init 126 = .ok (.dup, 1) := dk_89 (dk_at dksX7_init_5 7 rfl rfl)
theorem dX7_init_127 : decode cX7_init 127 = .ok (.bipush 9, 2) := dk_16 9 (dk_at dksX7_init_5 8 rfl rfl)
theorem dX7_init_129 : decode cX7_init 129 = .ok (.bipush 115, 2) := dk_16 115 (dk_at dksX7_init_5 10 rfl rfl)
theorem dX7_init_131 : decode cX7_init 131 = .ok (.bastore, 1) := dk_84 (dk_at dksX7_init_5 12 rfl rfl)
theorem dX7_init_132 : decode cX7_init 132 = .ok (.dup, 1) := dk_89 (dk_at dksX7_init_5 13 rfl rfl)
theorem dX7_init_133 : decode cX7_init 133 = .ok (.bipush 10, 2) := dk_16 10 (dk_at dksX7_init_5 14 rfl rfl)
theorem dX7_init_135 : decode cX7_init 135 = .ok (.bipush 32, 2) := dk_16 32 (dk_at dksX7_init_5 16 rfl rfl)
theorem dX7_init_137 : decode cX7_init 137 = .ok (.bastore, 1) := dk_84 (dk_at dksX7_init_5 18 rfl rfl)
theorem dX7_init_138 : decode cX7_init 138 = .ok (.dup, 1) := dk_89 (dk_at dksX7_init_5 19 rfl rfl)
theorem dX7_init_139 : decode cX7_init 139 = .ok (.bipush 11, 2) := dk_16 11 (dk_at dksX7_init_5 20 rfl rfl)
theorem dX7_init_141 : decode cX7_init 141 = .ok (.bipush 105, 2) := dk_16 105 (dk_at dksX7_init_5 22 rfl rfl)
theorem dX7_init_143 : decode cX7_init 143 = .ok (.bastore, 1) := dk_84 (dk_at dksX7_init_6 0 rfl rfl)
theorem dX7_init_144 : decode cX7_init 144 = .ok (.dup, 1) := dk_89 (dk_at dksX7_init_6 1 rfl rfl)
theorem dX7_init_145 : decode cX7_init 145 = .ok (.bipush 12, 2) := dk_16 12 (dk_at dksX7_init_6 2 rfl rfl)
theorem dX7_init_147 : decode cX7_init 147 = .ok (.bipush 102, 2) := dk_16 102 (dk_at dksX7_init_6 4 rfl rfl)
theorem dX7_init_149 : decode cX7_init 149 = .ok (.bastore, 1) := dk_84 (dk_at dksX7_init_6 6 rfl rfl)
theorem dX7_init_150 : decode cX7_init 150 = .ok (.dup, 1) := dk_89 (dk_at dksX7_init_6 7 rfl rfl)
theorem dX7_init_151 : decode cX7_init 151 = .ok (.bipush 13, 2) := dk_16 13 (dk_at dksX7_init_6 8 rfl rfl)
theorem dX7_init_153 : decode cX7_init 153 = .ok (.bipush 32, 2) := dk_16 32 (dk_at dksX7_init_6 10 rfl rfl)
theorem dX7_init_155 : decode cX7_init 155 = .ok (.bastore, 1) := dk_84 (dk_at dksX7_init_6 12 rfl rfl)
theorem dX7_init_156 : decode cX7_init 156 = .ok (.dup, 1) := dk_89 (dk_at dksX7_init_6 13 rfl rfl)
theorem dX7_init_157 : decode cX7_init 157 = .ok (.bipush 14, 2) := dk_16 14 (dk_at dksX7_init_6 14 rfl rfl)
theorem dX7_init_159 : decode cX7_init 159 = .ok (.bipush 111, 2) := dk_16 111 (dk_at dksX7_init_6 16 rfl rfl)
theorem dX7_init_161 : decode cX7_init 161 = .ok (.bastore, 1) := dk_84 (dk_at dksX7_init_6 18 rfl rfl)
theorem dX7_init_162 : decode cX7_init 162 = .ok (.dup, 1) := dk_89 (dk_at dksX7_init_6 19 rfl rfl)
theorem dX7_init_163 : decode cX7_init 163 = .ok (.bipush 15, 2) := dk_16 15 (dk_at dksX7_init_6 20 rfl rfl)
theorem dX7_init_165 : decode cX7_init 165 = .ok (.bipush 114, 2) := dk_16 114 (dk_at dksX7_init_6 22 rfl rfl)
theorem dX7_init_167 : decode cX7_init 167 = .ok (.bastore, 1) := dk_84 (dk_at dksX7_init_7 0 rfl rfl)
theorem dX7_init_168 : decode cX7_init 168 = .ok (.dup, 1) := dk_89 (dk_at dksX7_init_7 1 rfl rfl)
theorem dX7_init_169 : decode cX7_init 169 = .ok (.bipush 16, 2) := dk_16 16 (dk_at dksX7_init_7 2 rfl rfl)
theorem dX7_init_171 : decode cX7_init 171 = .ok (.bipush 32, 2) := dk_16 32 (dk_at dksX7_init_7 4 rfl rfl)
theorem dX7_init_173 : decode cX7_init 173 = .ok (.bastore, 1) := dk_84 (dk_at dksX7_init_7 6 rfl rfl)
theorem dX7_init_174 : decode cX7_init 174 = .ok (.dup, 1) := dk_89 (dk_at dksX7_init_7 7 rfl rfl)
theorem dX7_init_175 : decode cX7_init 175 = .ok (.bipush 17, 2) := dk_16 17 (dk_at dksX7_init_7 8 rfl rfl)
theorem dX7_init_177 : decode cX7_init 177 = .ok (.bipush 97, 2) := dk_16 97 (dk_at dksX7_init_7 10 rfl rfl)
theorem dX7_init_179 : decode cX7_init 179 = .ok (.bastore, 1) := dk_84 (dk_at dksX7_init_7 12 rfl rfl)
theorem dX7_init_180 : decode cX7_init 180 = .ok (.dup, 1) := dk_89 (dk_at dksX7_init_7 13 rfl rfl)
theorem dX7_init_181 : decode cX7_init 181 = .ok (.bipush 18, 2) := dk_16 18 (dk_at dksX7_init_7 14 rfl rfl)
theorem dX7_init_183 : decode cX7_init 183 = .ok (.bipush 110, 2) := dk_16 110 (dk_at dksX7_init_7 16 rfl rfl)
theorem dX7_init_185 : decode cX7_init 185 = .ok (.bastore, 1) := dk_84 (dk_at dksX7_init_7 18 rfl rfl)
theorem dX7_init_186 : decode cX7_init 186 = .ok (.dup, 1) := dk_89 (dk_at dksX7_init_7 19 rfl rfl)
theorem dX7_init_187 : decode cX7_init 187 = .ok (.bipush 19, 2) := dk_16 19 (dk_at dksX7_init_7 20 rfl rfl)
theorem dX7_init_189 : decode cX7_init 189 = .ok (.bipush 100, 2) := dk_16 100 (dk_at dksX7_init_7 22 rfl rfl)
theorem dX7_init_191 : decode cX7_init 191 = .ok (.bastore, 1) := dk_84 (dk_at dksX7_init_8 0 rfl rfl)
theorem dX7_init_192 : decode cX7_init 192 = .ok (.dup, 1) := dk_89 (dk_at dksX7_init_8 1 rfl rfl)
theorem dX7_init_193 : decode cX7_init 193 = .ok (.bipush 20, 2) := dk_16 20 (dk_at dksX7_init_8 2 rfl rfl)
theorem dX7_init_195 : decode cX7_init 195 = .ok (.bipush 32, 2) := dk_16 32 (dk_at dksX7_init_8 4 rfl rfl)
theorem dX7_init_197 : decode cX7_init 197 = .ok (.bastore, 1) := dk_84 (dk_at dksX7_init_8 6 rfl rfl)
theorem dX7_init_198 : decode cX7_init 198 = .ok (.dup, 1) := dk_89 (dk_at dksX7_init_8 7 rfl rfl)
theorem dX7_init_199 : decode cX7_init 199 = .ok (.bipush 21, 2) := dk_16 21 (dk_at dksX7_init_8 8 rfl rfl)
theorem dX7_init_201 : decode cX7_init 201 = .ok (.bipush 110, 2) := dk_16 110 (dk_at dksX7_init_8 10 rfl rfl)
theorem dX7_init_203 : decode cX7_init 203 = .ok (.bastore, 1) := dk_84 (dk_at dksX7_init_8 12 rfl rfl)
theorem dX7_init_204 : decode cX7_init 204 = .ok (.dup, 1) := dk_89 (dk_at dksX7_init_8 13 rfl rfl)
theorem dX7_init_205 : decode cX7_init 205 = .ok (.bipush 22, 2) := dk_16 22 (dk_at dksX7_init_8 14 rfl rfl)
theorem dX7_init_207 : decode cX7_init 207 = .ok (.bipush 111, 2) := dk_16 111 (dk_at dksX7_init_8 16 rfl rfl)
theorem dX7_init_209 : decode cX7_init 209 = .ok (.bastore, 1) := dk_84 (dk_at dksX7_init_8 18 rfl rfl)
theorem dX7_init_210 : decode cX7_init 210 = .ok (.dup, 1) := dk_89 (dk_at dksX7_init_8 19 rfl rfl)
theorem dX7_init_211 : decode cX7_init 211 = .ok (.bipush 23, 2) := dk_16 23 (dk_at dksX7_init_8 20 rfl rfl)
theorem dX7_init_213 : decode cX7_init 213 = .ok (.bipush 116, 2) := dk_16 116 (dk_at dksX7_init_8 22 rfl rfl)
theorem dX7_init_215 : decode cX7_init 215 = .ok (.bastore, 1) := dk_84 (dk_at dksX7_init_9 0 rfl rfl)
theorem dX7_init_216 : decode cX7_init 216 = .ok (.dup, 1) := dk_89 (dk_at dksX7_init_9 1 rfl rfl)
theorem dX7_init_217 : decode cX7_init 217 = .ok (.bipush 24, 2) := dk_16 24 (dk_at dksX7_init_9 2 rfl rfl)
theorem dX7_init_219 : decode cX7_init 219 = .ok (.bipush 32, 2) := dk_16 32 (dk_at dksX7_init_9 4 rfl rfl)
theorem dX7_init_221 : decode cX7_init 221 = .ok (.bastore, 1) := dk_84 (dk_at dksX7_init_9 6 rfl rfl)
theorem dX7_init_222 : decode cX7_init 222 = .ok (.dup, 1) := dk_89 (dk_at dksX7_init_9 7 rfl rfl)
theorem dX7_init_223 : decode cX7_init 223 = .ok (.bipush 25, 2) := dk_16 25 (dk_at dksX7_init_9 8 rfl rfl)
theorem dX7_init_225 : decode cX7_init 225 = .ok (.bipush 116, 2) := dk_16 116 (dk_at dksX7_init_9 10 rfl rfl)
theorem dX7_init_227 : decode cX7_init 227 = .ok (.bastore, 1) := dk_84 (dk_at dksX7_init_9 12 rfl rfl)
theorem dX7_init_228 : decode cX7_init 228 = .ok (.dup, 1) := dk_89 (dk_at dksX7_init_9 13 rfl rfl)
theorem dX7_init_229 : decode cX7_init 229 = .ok (.bipush 26, 2) := dk_16 26 (dk_at dksX7_init_9 14 rfl rfl)
theorem dX7_init_231 : decode cX7_init 231 = .ok (.bipush 101, 2) := dk_16 101 (dk_at dksX7_init_9 16 rfl rfl)
theorem dX7_init_233 : decode cX7_init 233 = .ok (.bastore, 1) := dk_84 (dk_at dksX7_init_9 18 rfl rfl)
theorem dX7_init_234 : decode cX7_init 234 = .ok (.dup, 1) := dk_89 (dk_at dksX7_init_9 19 rfl rfl)
theorem dX7_init_235 : decode cX7_init 235 = .ok (.bipush 27, 2) := dk_16 27 (dk_at dksX7_init_9 20 rfl rfl)
theorem dX7_init_237 : decode cX7_init 237 = .ok (.bipush 110, 2) := dk_16 110 (dk_at dksX7_init_9 22 rfl rfl)
theorem dX7_init_239 : decode cX7_init 239 = .ok (.bastore, 1) := dk_84 (dk_at dksX7_init_10 0 rfl rfl)
theorem dX7_init_240 : decode cX7_init 240 = .ok (.dup, 1) := dk_89 (dk_at dksX7_init_10 1 rfl rfl)
theorem dX7_init_241 : decode cX7_init 241 = .ok (.bipush 28, 2) := dk_16 28 (dk_at dksX7_init_10 2 rfl rfl)
theorem dX7_init_243 : decode cX7_init 243 = .ok (.bipush 97, 2) := dk_16 97 (dk_at dksX7_init_10 4 rfl rfl)
theorem dX7_init_245 : decode cX7_init 245 = .ok (.bastore, 1) := dk_84 (dk_at dksX7_init_10 6 rfl rfl)
theorem dX7_init_246 : decode cX7_init 246 = .ok (.dup, 1) := dk_89 (dk_at dksX7_init_10 7 rfl rfl)
theorem dX7_init_247 : decode cX7_init 247 = .ok (.bipush 29, 2) := dk_16 29 (dk_at dksX7_init_10 8 rfl rfl)
theorem dX7_init_249 : decode cX7_init 249 = .ok (.bipush 110, 2) := dk_16 110 (dk_at dksX7_init_10 10 rfl rfl)
theorem dX7_init_251 : decode cX7_init 251 = .ok (.bastore, 1) := dk_84 (dk_at dksX7_init_10 12 rfl rfl)
theorem dX7_init_252 : decode cX7_init 252 = .ok (.dup, 1) := dk_89 (dk_at dksX7_init_10 13 rfl rfl)
theorem dX7_init_253 : decode cX7_init 253 = .ok (.bipush 30, 2) := dk_16 30 (dk_at dksX7_init_10 14 rfl rfl)
theorem dX7_init_255 : decode cX7_init 255 = .ok (.bipush 116, 2) := dk_16 116 (dk_at dksX7_init_10 16 rfl rfl)
theorem dX7_init_257 : decode cX7_init 257 = .ok (.bastore, 1) := dk_84 (dk_at dksX7_init_10 18 rfl rfl)
theorem dX7_init_258 : decode cX7_init 258 = .ok (.dup, 1) := dk_89 (dk_at dksX7_init_10 19 rfl rfl)
theorem dX7_init_259 : decode cX7_init 259 = .ok (.bipush 31, 2) := dk_16 31 (dk_at dksX7_init_10 20 rfl rfl)
theorem dX7_init_261 : decode cX7_init 261 = .ok (.bipush 32, 2) := dk_16 32 (dk_at dksX7_init_10 22 rfl rfl)
theorem dX7_init_263 : decode cX7_init 263 = .ok (.bastore, 1) := dk_84 (dk_at dksX7_init_11 0 rfl rfl)
theorem dX7_init_264 : decode cX7_init 264 = .ok (.dup, 1) := dk_89 (dk_at dksX7_init_11 1 rfl rfl)
theorem dX7_init_265 : decode cX7_init 265 = .ok (.bipush 32, 2) := dk_16 32 (dk_at dksX7_init_11 2 rfl rfl)
theorem dX7_init_267 : decode cX7_init 267 = .ok (.bipush 107, 2) := dk_16 107 (dk_at dksX7_init_11 4 rfl rfl)
theorem dX7_init_269 : decode cX7_init 269 = .ok (.bastore, 1) := dk_84 (dk_at dksX7_init_11 6 rfl rfl)
theorem dX7_init_270 : decode cX7_init 270 = .ok (.dup, 1) := dk_89 (dk_at dksX7_init_11 7 rfl rfl)
theorem dX7_init_271 : decode cX7_init 271 = .ok (.bipush 33, 2) := dk_16 33 (dk_at dksX7_init_11 8 rfl rfl)
theorem dX7_init_273 : decode cX7_init 273 = .ok (.bipush 101, 2) := dk_16 101 (dk_at dksX7_init_11 10 rfl rfl)
theorem dX7_init_275 : decode cX7_init 275 = .ok (.bastore, 1) := dk_84 (dk_at dksX7_init_11 12 rfl rfl)
theorem dX7_init_276 : decode cX7_init 276 = .ok (.dup, 1) := dk_89 (dk_at dksX7_init_11 13 rfl rfl)
theorem dX7_init_277 : decode cX7_init 277 = .ok (.bipush 34, 2) := dk_16 34 (dk_at dksX7_init_11 14 rfl rfl)
theorem dX7_init_279 : decode cX7_init 279 = .ok (.bipush 121, 2) := dk_16 121 (dk_at dksX7_init_11 16 rfl rfl)
theorem dX7_init_281 : decode cX7_init 281 = .ok (.bastore, 1) := dk_84 (dk_at dksX7_init_11 18 rfl rfl)
theorem dX7_init_282 : decode cX7_init 282 = .ok (.dup, 1) := dk_89 (dk_at dksX7_init_11 19 rfl rfl)
theorem dX7_init_283 : decode cX7_init 283 = .ok (.bipush 35, 2) := dk_16 35 (dk_at dksX7_init_11 20 rfl rfl)
theorem dX7_init_285 : decode cX7_init 285 = .ok (.bipush 32, 2) := dk_16 32 (dk_at dksX7_init_11 22 rfl rfl)
theorem dX7_init_287 : decode cX7_init 287 = .ok (.bastore, 1) := dk_84 (dk_at dksX7_init_12 0 rfl rfl)
theorem dX7_init_288 : decode cX7_init 288 = .ok (.dup, 1) := dk_89 (dk_at dksX7_init_12 1 rfl rfl)
theorem dX7_init_289 : decode cX7_init 289 = .ok (.bipush 36, 2) := dk_16 36 (dk_at dksX7_init_12 2 rfl rfl)
theorem dX7_init_291 : decode cX7_init 291 = .ok (.bipush 114, 2) := dk_16 114 (dk_at dksX7_init_12 4 rfl rfl)
theorem dX7_init_293 : decode cX7_init 293 = .ok (.bastore, 1) := dk_84 (dk_at dksX7_init_12 6 rfl rfl)
theorem dX7_init_294 : decode cX7_init 294 = .ok (.dup, 1) := dk_89 (dk_at dksX7_init_12 7 rfl rfl)
theorem dX7_init_295 : decode cX7_init 295 = .ok (.bipush 37, 2) := dk_16 37 (dk_at dksX7_init_12 8 rfl rfl)
theorem dX7_init_297 : decode cX7_init 297 = .ok (.bipush 101, 2) := dk_16 101 (dk_at dksX7_init_12 10 rfl rfl)
theorem dX7_init_299 : decode cX7_init 299 = .ok (.bastore, 1) := dk_84 (dk_at dksX7_init_12 12 rfl rfl)
theorem dX7_init_300 : decode cX7_init 300 = .ok (.dup, 1) := dk_89 (dk_at dksX7_init_12 13 rfl rfl)
theorem dX7_init_301 : decode cX7_init 301 = .ok (.bipush 38, 2) := dk_16 38 (dk_at dksX7_init_12 14 rfl rfl)
theorem dX7_init_303 : decode cX7_init 303 = .ok (.bipush 97, 2) := dk_16 97 (dk_at dksX7_init_12 16 rfl rfl)
theorem dX7_init_305 : decode cX7_init 305 = .ok (.bastore, 1) := dk_84 (dk_at dksX7_init_12 18 rfl rfl)
theorem dX7_init_306 : decode cX7_init 306 = .ok (.dup, 1) := dk_89 (dk_at dksX7_init_12 19 rfl rfl)
theorem dX7_init_307 : decode cX7_init 307 = .ok (.bipush 39, 2) := dk_16 39 (dk_at dksX7_init_12 20 rfl rfl)
theorem dX7_init_309 : decode cX7_init 309 = .ok (.bipush 100, 2) := dk_16 100 (dk_at dksX7_init_12 22 rfl rfl)
theorem dX7_init_311 : decode cX7_init 311 = .ok (.bastore, 1) := dk_84 (dk_at dksX7_init_13 0 rfl rfl)
theorem dX7_init_312 : decode cX7_init 312 = .ok (.dup, 1) := dk_89 (dk_at dksX7_init_13 1 rfl rfl)
theorem dX7_init_313 : decode cX7_init 313 = .ok (.bipush 40, 2) := dk_16 40 (dk_at dksX7_init_13 2 rfl rfl)
theorem dX7_init_315 : decode cX7_init 315 = .ok (.bipush 115, 2) := dk_16 115 (dk_at dksX7_init_13 4 rfl rfl)
theorem dX7_init_317 : decode cX7_init 317 = .ok (.bastore, 1) := dk_84 (dk_at dksX7_init_13 6 rfl rfl)
theorem dX7_init_318 : decode cX7_init 318 = .ok (.dup, 1) := dk_89 (dk_at dksX7_init_13 7 rfl rfl)
theorem dX7_init_319 : decode cX7_init 319 = .ok (.bipush 41, 2) := dk_16 41 (dk_at dksX7_init_13 8 rfl rfl)
theorem dX7_init_321 : decode cX7_init 321 = .ok (.bipush 32, 2) := dk_16 32 (dk_at dksX7_init_13 10 rfl rfl)
theorem dX7_init_323 : decode cX7_init 323 = .ok (.bastore, 1) := dk_84 (dk_at dksX7_init_13 12 rfl rfl)
theorem dX7_init_324 : decode cX7_init 324 = .ok (.dup, 1) := dk_89 (dk_at dksX7_init_13 13 rfl rfl)
theorem dX7_init_325 : decode cX7_init 325 = .ok (.bipush 42, 2) := dk_16 42 (dk_at dksX7_init_13 14 rfl rfl)
theorem dX7_init_327 : decode cX7_init 327 = .ok (.bipush 102, 2) := dk_16 102 (dk_at dksX7_init_13 16 rfl rfl)
theorem dX7_init_329 : decode cX7_init 329 = .ok (.bastore, 1) := dk_84 (dk_at dksX7_init_13 18 rfl rfl)
theorem dX7_init_330 : decode cX7_init 330 = .ok (.dup, 1) := dk_89 (dk_at dksX7_init_13 19 rfl rfl)
theorem dX7_init_331 : decode cX7_init 331 = .ok (.bipush 43, 2) := dk_16 43 (dk_at dksX7_init_13 20 rfl rfl)
theorem dX7_init_333 : decode cX7_init 333 = .ok (.bipush 97, 2) := dk_16 97 (dk_at dksX7_init_13 22 rfl rfl)
theorem dX7_init_335 : decode cX7_init 335 = .ok (.bastore, 1) := dk_84 (dk_at dksX7_init_14 0 rfl rfl)
theorem dX7_init_336 : decode cX7_init 336 = .ok (.dup, 1) := dk_89 (dk_at dksX7_init_14 1 rfl rfl)
theorem dX7_init_337 : decode cX7_init 337 = .ok (.bipush 44, 2) := dk_16 44 (dk_at dksX7_init_14 2 rfl rfl)
theorem dX7_init_339 : decode cX7_init 339 = .ok (.bipush 114, 2) := dk_16 114 (dk_at dksX7_init_14 4 rfl rfl)
theorem dX7_init_341 : decode cX7_init 341 = .ok (.bastore, 1) := dk_84 (dk_at dksX7_init_14 6 rfl rfl)
theorem dX7_init_342 : decode cX7_init 342 = .ok (.dup, 1) := dk_89 (dk_at dksX7_init_14 7 rfl rfl)
theorem dX7_init_343 : decode cX7_init 343 = .ok (.bipush 45, 2) := dk_16 45 (dk_at dksX7_init_14 8 rfl rfl)
theorem dX7_init_345 : decode cX7_init 345 = .ok (.bipush 32, 2) := dk_16 32 (dk_at dksX7_init_14 10 rfl rfl)
theorem dX7_init_347 : decode cX7_init 347 = .ok (.bastore, 1) := dk_84 (dk_at dksX7_init_14 12 rfl rfl)
theorem dX7_init_348 : decode cX7_init 348 = .ok (.dup, 1) := dk_89 (dk_at dksX7_init_14 13 rfl rfl)
theorem dX7_init_349 : decode cX7_init 349 = .ok (.bipush 46, 2) := dk_16 46 (dk_at dksX7_init_14 14 rfl rfl)
theorem dX7_init_351 : decode cX7_init 351 = .ok (.bipush 109, 2) := dk_16 109 (dk_at dksX7_init_14 16 rfl rfl)
theorem dX7_init_353 : decode cX7_init 353 = .ok (.bastore, 1) := dk_84 (dk_at dksX7_init_14 18 rfl rfl)
theorem dX7_init_354 : decode cX7_init 354 = .ok (.dup, 1) := dk_89 (dk_at dksX7_init_14 19 rfl rfl)
theorem dX7_init_355 : decode cX7_init 355 = .ok (.bipush 47, 2) := dk_16 47 (dk_at dksX7_init_14 20 rfl rfl)
theorem dX7_init_357 : decode cX7_init 357 = .ok (.bipush 111, 2) := dk_16 111 (dk_at dksX7_init_14 22 rfl rfl)
theorem dX7_init_359 : decode cX7_init 359 = .ok (.bastore, 1) := dk_84 (dk_at dksX7_init_15 0 rfl rfl)
theorem dX7_init_360 : decode cX7_init 360 = .ok (.dup, 1) := dk_89 (dk_at dksX7_init_15 1 rfl rfl)
theorem dX7_init_361 : decode cX7_init 361 = .ok (.bipush 48, 2) := dk_16 48 (dk_at dksX7_init_15 2 rfl rfl)
theorem dX7_init_363 : decode cX7_init 363 = .ok (.bipush 111, 2) := dk_16 111 (dk_at dksX7_init_15 4 rfl rfl)
theorem dX7_init_365 : decode cX7_init 365 = .ok (.bastore, 1) := dk_84 (dk_at dksX7_init_15 6 rfl rfl)
theorem dX7_init_366 : decode cX7_init 366 = .ok (.dup, 1) := dk_89 (dk_at dksX7_init_15 7 rfl rfl)
theorem dX7_init_367 : decode cX7_init 367 = .ok (.bipush 49, 2) := dk_16 49 (dk_at dksX7_init_15 8 rfl rfl)
theorem dX7_init_369 : decode cX7_init 369 = .ok (.bipush 100, 2) := dk_16 100 (dk_at dksX7_init_15 10 rfl rfl)
theorem dX7_init_371 : decode cX7_init 371 = .ok (.bastore, 1) := dk_84 (dk_at dksX7_init_15 12 rfl rfl)
theorem dX7_init_372 : decode cX7_init 372 = .ok (.dup, 1) := dk_89 (dk_at dksX7_init_15 13 rfl rfl)
theorem dX7_init_373 : decode cX7_init 373 = .ok (.bipush 50, 2) := dk_16 50 (dk_at dksX7_init_15 14 rfl rfl)
theorem dX7_init_375 : decode cX7_init 375 = .ok (.bipush 32, 2) := dk_16 32 (dk_at dksX7_init_15 16 rfl rfl)
theorem dX7_init_377 : decode cX7_init 377 = .ok (.bastore, 1) := dk_84 (dk_at dksX7_init_15 18 rfl rfl)
theorem dX7_init_378 : decode cX7_init 378 = .ok (.dup, 1) := dk_89 (dk_at dksX7_init_15 19 rfl rfl)
theorem dX7_init_379 : decode cX7_init 379 = .ok (.bipush 51, 2) := dk_16 51 (dk_at dksX7_init_15 20 rfl rfl)
theorem dX7_init_381 : decode cX7_init 381 = .ok (.bipush 116, 2) := dk_16 116 (dk_at dksX7_init_15 22 rfl rfl)
theorem dX7_init_383 : decode cX7_init 383 = .ok (.bastore, 1) := dk_84 (dk_at dksX7_init_16 0 rfl rfl)
theorem dX7_init_384 : decode cX7_init 384 = .ok (.dup, 1) := dk_89 (dk_at dksX7_init_16 1 rfl rfl)
theorem dX7_init_385 : decode cX7_init 385 = .ok (.bipush 52, 2) := dk_16 52 (dk_at dksX7_init_16 2 rfl rfl)
theorem dX7_init_387 : decode cX7_init 387 = .ok (.bipush 105, 2) := dk_16 105 (dk_at dksX7_init_16 4 rfl rfl)
theorem dX7_init_389 : decode cX7_init 389 = .ok (.bastore, 1) := dk_84 (dk_at dksX7_init_16 6 rfl rfl)
theorem dX7_init_390 : decode cX7_init 390 = .ok (.dup, 1) := dk_89 (dk_at dksX7_init_16 7 rfl rfl)
theorem dX7_init_391 : decode cX7_init 391 = .ok (.bipush 53, 2) := dk_16 53 (dk_at dksX7_init_16 8 rfl rfl)
theorem dX7_init_393 : decode cX7_init 393 = .ok (.bipush 109, 2) := dk_16 109 (dk_at dksX7_init_16 10 rfl rfl)
theorem dX7_init_395 : decode cX7_init 395 = .ok (.bastore, 1) := dk_84 (dk_at dksX7_init_16 12 rfl rfl)
theorem dX7_init_396 : decode cX7_init 396 = .ok (.dup, 1) := dk_89 (dk_at dksX7_init_16 13 rfl rfl)
theorem dX7_init_397 : decode cX7_init 397 = .ok (.bipush 54, 2) := dk_16 54 (dk_at dksX7_init_16 14 rfl rfl)
theorem dX7_init_399 : decode cX7_init 399 = .ok (.bipush 101, 2) := dk_16 101 (dk_at dksX7_init_16 16 rfl rfl)
theorem dX7_init_401 : decode cX7_init 401 = .ok (.bastore, 1) := dk_84 (dk_at dksX7_init_16 18 rfl rfl)
theorem dX7_init_402 : decode cX7_init 402 = .ok (.dup, 1) := dk_89 (dk_at dksX7_init_16 19 rfl rfl)
theorem dX7_init_403 : decode cX7_init 403 = .ok (.bipush 55, 2) := dk_16 55 (dk_at dksX7_init_16 20 rfl rfl)
theorem dX7_init_405 : decode cX7_init 405 = .ok (.bipush 32, 2) := dk_16 32 (dk_at dksX7_init_16 22 rfl rfl)
theorem dX7_init_407 : decode cX7_init 407 = .ok (.bastore, 1) := dk_84 (dk_at dksX7_init_17 0 rfl rfl)
theorem dX7_init_408 : decode cX7_init 408 = .ok (.dup, 1) := dk_89 (dk_at dksX7_init_17 1 rfl rfl)
theorem dX7_init_409 : decode cX7_init 409 = .ok (.bipush 56, 2) := dk_16 56 (dk_at dksX7_init_17 2 rfl rfl)
theorem dX7_init_411 : decode cX7_init 411 = .ok (.bipush 100, 2) := dk_16 100 (dk_at dksX7_init_17 4 rfl rfl)
theorem dX7_init_413 : decode cX7_init 413 = .ok (.bastore, 1) := dk_84 (dk_at dksX7_init_17 6 rfl rfl)
theorem dX7_init_414 : decode cX7_init 414 = .ok (.dup, 1) := dk_89 (dk_at dksX7_init_17 7 rfl rfl)
theorem dX7_init_415 : decode cX7_init 415 = .ok (.bipush 57, 2) := dk_16 57 (dk_at dksX7_init_17 8 rfl rfl)
theorem dX7_init_417 : decode cX7_init 417 = .ok (.bipush 111, 2) := dk_16 111 (dk_at dksX7_init_17 10 rfl rfl)
theorem dX7_init_419 : decode cX7_init 419 = .ok (.bastore, 1) := dk_84 (dk_at dksX7_init_17 12 rfl rfl)
theorem dX7_init_420 : decode cX7_init 420 = .ok (.dup, 1) := dk_89 (dk_at dksX7_init_17 13 rfl rfl)
theorem dX7_init_421 : decode cX7_init 421 = .ok (.bipush 58, 2) := dk_16 58 (dk_at dksX7_init_17 14 rfl rfl)
theorem dX7_init_423 : decode cX7_init 423 = .ok (.bipush 110, 2) := dk_16 110 (dk_at dksX7_init_17 16 rfl rfl)
theorem dX7_init_425 : decode cX7_init 425 = .ok (.bastore, 1) := dk_84 (dk_at dksX7_init_17 18 rfl rfl)
theorem dX7_init_426 : decode cX7_init 426 = .ok (.dup, 1) := dk_89 (dk_at dksX7_init_17 19 rfl rfl)
theorem dX7_init_427 : decode cX7_init 427 = .ok (.bipush 59, 2) := dk_16 59 (dk_at dksX7_init_17 20 rfl rfl)
theorem dX7_init_429 : decode cX7_init 429 = .ok (.bipush 101, 2) := dk_16 101 (dk_at dksX7_init_17 22 rfl rfl)
theorem dX7_init_431 : decode cX7_init 431 = .ok (.bastore, 1) := dk_84 (dk_at dksX7_init_18 0 rfl rfl)
theorem dX7_init_432 : decode cX7_init 432 = .ok (.dup, 1) := dk_89 (dk_at dksX7_init_18 1 rfl rfl)
theorem dX7_init_433 : decode cX7_init 433 = .ok (.bipush 60, 2) := dk_16 60 (dk_at dksX7_init_18 2 rfl rfl)
theorem dX7_init_435 : decode cX7_init 435 = .ok (.bipush 32, 2) := dk_16 32 (dk_at dksX7_init_18 4 rfl rfl)
theorem dX7_init_437 : decode cX7_init 437 = .ok (.bastore, 1) := dk_84 (dk_at dksX7_init_18 6 rfl rfl)
theorem dX7_init_438 : decode cX7_init 438 = .ok (.dup, 1) := dk_89 (dk_at dksX7_init_18 7 rfl rfl)
theorem dX7_init_439 : decode cX7_init 439 = .ok (.bipush 61, 2) := dk_16 61 (dk_at dksX7_init_18 8 rfl rfl)
theorem dX7_init_441 : decode cX7_init 441 = .ok (.bipush 108, 2) := dk_16 108 (dk_at dksX7_init_18 10 rfl rfl)
theorem dX7_init_443 : decode cX7_init 443 = .ok (.bastore, 1) := dk_84 (dk_at dksX7_init_18 12 rfl rfl)
theorem dX7_init_444 : decode cX7_init 444 = .ok (.dup, 1) := dk_89 (dk_at dksX7_init_18 13 rfl rfl)
theorem dX7_init_445 : decode cX7_init 445 = .ok (.bipush 62, 2) := dk_16 62 (dk_at dksX7_init_18 14 rfl rfl)
theorem dX7_init_447 : decode cX7_init 447 = .ok (.bipush 97, 2) := dk_16 97 (dk_at dksX7_init_18 16 rfl rfl)
theorem dX7_init_449 : decode cX7_init 449 = .ok (.bastore, 1) := dk_84 (dk_at dksX7_init_18 18 rfl rfl)
theorem dX7_init_450 : decode cX7_init 450 = .ok (.dup, 1) := dk_89 (dk_at dksX7_init_18 19 rfl rfl)
theorem dX7_init_451 : decode cX7_init 451 = .ok (.bipush 63, 2) := dk_16 63 (dk_at dksX7_init_18 20 rfl rfl)
theorem dX7_init_453 : decode cX7_init 453 = .ok (.bipush 116, 2) := dk_16 116 (dk_at dksX7_init_18 22 rfl rfl)
theorem dX7_init_455 : decode cX7_init 455 = .ok (.bastore, 1) := dk_84 (dk_at dksX7_init_19 0 rfl rfl)
theorem dX7_init_456 : decode cX7_init 456 = .ok (.dup, 1) := dk_89 (dk_at dksX7_init_19 1 rfl rfl)
theorem dX7_init_457 : decode cX7_init 457 = .ok (.bipush 64, 2) := dk_16 64 (dk_at dksX7_init_19 2 rfl rfl)
theorem dX7_init_459 : decode cX7_init 459 = .ok (.bipush 101, 2) := dk_16 101 (dk_at dksX7_init_19 4 rfl rfl)
theorem dX7_init_461 : decode cX7_init 461 = .ok (.bastore, 1) := dk_84 (dk_at dksX7_init_19 6 rfl rfl)
theorem dX7_init_462 : decode cX7_init 462 = .ok (.dup, 1) := dk_89 (dk_at dksX7_init_19 7 rfl rfl)
theorem dX7_init_463 : decode cX7_init 463 = .ok (.bipush 65, 2) := dk_16 65 (dk_at dksX7_init_19 8 rfl rfl)
theorem dX7_init_465 : decode cX7_init 465 = .ok (.bipush 115, 2) := dk_16 115 (dk_at dksX7_init_19 10 rfl rfl)
theorem dX7_init_467 : decode cX7_init 467 = .ok (.bastore, 1) := dk_84 (dk_at dksX7_init_19 12 rfl rfl)
theorem dX7_init_468 : decode cX7_init 468 = .ok (.dup, 1) := dk_89 (dk_at dksX7_init_19 13 rfl rfl)
theorem dX7_init_469 : decode cX7_init 469 = .ok (.bipush 66, 2) := dk_16 66 (dk_at dksX7_init_19 14 rfl rfl)
theorem dX7_init_471 : decode cX7_init 471 = .ok (.bipush 116, 2) := dk_16 116 (dk_at dksX7_init_19 16 rfl rfl)
theorem dX7_init_473 : decode cX7_init 473 = .ok (.bastore, 1) := dk_84 (dk_at dksX7_init_19 18 rfl rfl)
theorem dX7_init_474 : decode cX7_init 474 = .ok (.dup, 1) := dk_89 (dk_at dksX7_init_19 19 rfl rfl)
theorem dX7_init_475 : decode cX7_init 475 = .ok (.bipush 67, 2) := dk_16 67 (dk_at dksX7_init_19 20 rfl rfl)
theorem dX7_init_477 : decode cX7_init 477 = .ok (.bipush 32, 2) := dk_16 32 (dk_at dksX7_init_19 22 rfl rfl)
theorem dX7_init_479 : decode cX7_init 479 = .ok (.bastore, 1) := dk_84 (dk_at dksX7_init_20 0 rfl rfl)
theorem dX7_init_480 : decode cX7_init 480 = .ok (.dup, 1) := dk_89 (dk_at dksX7_init_20 1 rfl rfl)
theorem dX7_init_481 : decode cX7_init 481 = .ok (.bipush 68, 2) := dk_16 68 (dk_at dksX7_init_20 2 rfl rfl)
theorem dX7_init_483 : decode cX7_init 483 = .ok (.bipush 99, 2) := dk_16 99 (dk_at dksX7_init_20 4 rfl rfl)
theorem dX7_init_485 : decode cX7_init 485 = .ok (.bastore, 1) := dk_84 (dk_at dksX7_init_20 6 rfl rfl)
theorem dX7_init_486 : decode cX7_init 486 = .ok (.dup, 1) := dk_89 (dk_at dksX7_init_20 7 rfl rfl)
theorem dX7_init_487 : decode cX7_init 487 = .ok (.bipush 69, 2) := dk_16 69 (dk_at dksX7_init_20 8 rfl rfl)
theorem dX7_init_489 : decode cX7_init 489 = .ok (.bipush 111, 2) := dk_16 111 (dk_at dksX7_init_20 10 rfl rfl)
theorem dX7_init_491 : decode cX7_init 491 = .ok (.bastore, 1) := dk_84 (dk_at dksX7_init_20 12 rfl rfl)
theorem dX7_init_492 : decode cX7_init 492 = .ok (.dup, 1) := dk_89 (dk_at dksX7_init_20 13 rfl rfl)
theorem dX7_init_493 : decode cX7_init 493 = .ok (.bipush 70, 2) := dk_16 70 (dk_at dksX7_init_20 14 rfl rfl)
theorem dX7_init_495 : decode cX7_init 495 = .ok (.bipush 108, 2) := dk_16 108 (dk_at dksX7_init_20 16 rfl rfl)
theorem dX7_init_497 : decode cX7_init 497 = .ok (.bastore, 1) := dk_84 (dk_at dksX7_init_20 18 rfl rfl)
theorem dX7_init_498 : decode cX7_init 498 = .ok (.dup, 1) := dk_89 (dk_at dksX7_init_20 19 rfl rfl)
theorem dX7_init_499 : decode cX7_init 499 = .ok (.bipush 71, 2) := dk_16 71 (dk_at dksX7_init_20 20 rfl rfl)
theorem dX7_init_501 : decode cX7_init 501 = .ok (.bipush 100, 2) := dk_16 100 (dk_at dksX7_init_20 22 rfl rfl)
theorem dX7_init_503 : decode cX7_init 503 = .ok (.bastore, 1) := dk_84 (dk_at dksX7_init_21 0 rfl rfl)
theorem dX7_init_504 : decode cX7_init 504 = .ok (.dup, 1) := dk_89 (dk_at dksX7_init_21 1 rfl rfl)
theorem dX7_init_505 : decode cX7_init 505 = .ok (.bipush 72, 2) := dk_16 72 (dk_at dksX7_init_21 2 rfl rfl)
theorem dX7_init_507 : decode cX7_init 507 = .ok (.bipush 32, 2) := dk_16 32 (dk_at dksX7_init_21 4 rfl rfl)
theorem dX7_init_509 : decode cX7_init 509 = .ok (.bastore, 1) := dk_84 (dk_at dksX7_init_21 6 rfl rfl)
theorem dX7_init_510 : decode cX7_init 510 = .ok (.dup, 1) := dk_89 (dk_at dksX7_init_21 7 rfl rfl)
theorem dX7_init_511 : decode cX7_init 511 = .ok (.bipush 73, 2) := dk_16 73 (dk_at dksX7_init_21 8 rfl rfl)
theorem dX7_init_513 : decode cX7_init 513 = .ok (.bipush 100, 2) := dk_16 100 (dk_at dksX7_init_21 10 rfl rfl)
theorem dX7_init_515 : decode cX7_init 515 = .ok (.bastore, 1) := dk_84 (dk_at dksX7_init_21 12 rfl rfl)
theorem dX7_init_516 : decode cX7_init 516 = .ok (.dup, 1) := dk_89 (dk_at dksX7_init_21 13 rfl rfl)
theorem dX7_init_517 : decode cX7_init 517 = .ok (.bipush 74, 2) := dk_16 74 (dk_at dksX7_init_21 14 rfl rfl)
theorem dX7_init_519 : decode cX7_init 519 = .ok (.bipush 101, 2) := dk_16 101 (dk_at dksX7_init_21 16 rfl rfl)
theorem dX7_init_521 : decode cX7_init 521 = .ok (.bastore, 1) := dk_84 (dk_at dksX7_init_21 18 rfl rfl)
theorem dX7_init_522 : decode cX7_init 522 = .ok (.dup, 1) := dk_89 (dk_at dksX7_init_21 19 rfl rfl)
theorem dX7_init_523 : decode cX7_init 523 = .ok (.bipush 75, 2) := dk_16 75 (dk_at dksX7_init_21 20 rfl rfl)
theorem dX7_init_525 : decode cX7_init 525 = .ok (.bipush 101, 2) := dk_16 101 (dk_at dksX7_init_21 22 rfl rfl)
theorem dX7_init_527 : decode cX7_init 527 = .ok (.bastore, 1) := dk_84 (dk_at dksX7_init_22 0 rfl rfl)
theorem dX7_init_528 : decode cX7_init 528 = .ok (.dup, 1) := dk_89 (dk_at dksX7_init_22 1 rfl rfl)
theorem dX7_init_529 : decode cX7_init 529 = .ok (.bipush 76, 2) := dk_16 76 (dk_at dksX7_init_22 2 rfl rfl)
theorem dX7_init_531 : decode cX7_init 531 = .ok (.bipush 112, 2) := dk_16 112 (dk_at dksX7_init_22 4 rfl rfl)
theorem dX7_init_533 : decode cX7_init 533 = .ok (.bastore, 1) := dk_84 (dk_at dksX7_init_22 6 rfl rfl)
theorem dX7_init_534 : decode cX7_init 534 = .ok (.dup, 1) := dk_89 (dk_at dksX7_init_22 7 rfl rfl)
theorem dX7_init_535 : decode cX7_init 535 = .ok (.bipush 77, 2) := dk_16 77 (dk_at dksX7_init_22 8 rfl rfl)
theorem dX7_init_537 : decode cX7_init 537 = .ok (.bipush 32, 2) := dk_16 32 (dk_at dksX7_init_22 10 rfl rfl)
theorem dX7_init_539 : decode cX7_init 539 = .ok (.bastore, 1) := dk_84 (dk_at dksX7_init_22 12 rfl rfl)
theorem dX7_init_540 : decode cX7_init 540 = .ok (.dup, 1) := dk_89 (dk_at dksX7_init_22 13 rfl rfl)
theorem dX7_init_541 : decode cX7_init 541 = .ok (.bipush 78, 2) := dk_16 78 (dk_at dksX7_init_22 14 rfl rfl)
theorem dX7_init_543 : decode cX7_init 543 = .ok (.bipush 114, 2) := dk_16 114 (dk_at dksX7_init_22 16 rfl rfl)
theorem dX7_init_545 : decode cX7_init 545 = .ok (.bastore, 1) := dk_84 (dk_at dksX7_init_22 18 rfl rfl)
theorem dX7_init_546 : decode cX7_init 546 = .ok (.dup, 1) := dk_89 (dk_at dksX7_init_22 19 rfl rfl)
theorem dX7_init_547 : decode cX7_init 547 = .ok (.bipush 79, 2) := dk_16 79 (dk_at dksX7_init_22 20 rfl rfl)
theorem dX7_init_549 : decode cX7_init 549 = .ok (.bipush 101, 2) := dk_16 101 (dk_at dksX7_init_22 22 rfl rfl)
theorem dX7_init_551 : decode cX7_init 551 = .ok (.bastore, 1) := dk_84 (dk_at dksX7_init_23 0 rfl rfl)
theorem dX7_init_552 : decode cX7_init 552 = .ok (.dup, 1) := dk_89 (dk_at dksX7_init_23 1 rfl rfl)
theorem dX7_init_553 : decode cX7_init 553 = .ok (.bipush 80, 2) := dk_16 80 (dk_at dksX7_init_23 2 rfl rfl)
theorem dX7_init_555 : decode cX7_init 555 = .ok (.bipush 97, 2) := dk_16 97 (dk_at dksX7_init_23 4 rfl rfl)
theorem dX7_init_557 : decode cX7_init 557 = .ok (.bastore, 1) := dk_84 (dk_at dksX7_init_23 6 rfl rfl)
theorem dX7_init_558 : decode cX7_init 558 = .ok (.dup, 1) := dk_89 (dk_at dksX7_init_23 7 rfl rfl)
theorem dX7_init_559 : decode cX7_init 559 = .ok (.bipush 81, 2) := dk_16 81 (dk_at dksX7_init_23 8 rfl rfl)
theorem dX7_init_561 : decode cX7_init 561 = .ok (.bipush 100, 2) := dk_16 100 (dk_at dksX7_init_23 10 rfl rfl)
theorem dX7_init_563 : decode cX7_init 563 = .ok (.bastore, 1) := dk_84 (dk_at dksX7_init_23 12 rfl rfl)
theorem dX7_init_564 : decode cX7_init 564 = .ok (.dup, 1) := dk_89 (dk_at dksX7_init_23 13 rfl rfl)
theorem dX7_init_565 : decode cX7_init 565 = .ok (.bipush 82, 2) := dk_16 82 (dk_at dksX7_init_23 14 rfl rfl)
theorem dX7_init_567 : decode cX7_init 567 = .ok (.bipush 32, 2) := dk_16 32 (dk_at dksX7_init_23 16 rfl rfl)
theorem dX7_init_569 : decode cX7_init 569 = .ok (.bastore, 1) := dk_84 (dk_at dksX7_init_23 18 rfl rfl)
theorem dX7_init_570 : decode cX7_init 570 = .ok (.dup, 1) := dk_89 (dk_at dksX7_init_23 19 rfl rfl)
theorem dX7_init_571 : decode cX7_init 571 = .ok (.bipush 83, 2) := dk_16 83 (dk_at dksX7_init_23 20 rfl rfl)
theorem dX7_init_573 : decode cX7_init 573 = .ok (.bipush 98, 2) := dk_16 98 (dk_at dksX7_init_23 22 rfl rfl)
theorem dX7_init_575 : decode cX7_init 575 = .ok (.bastore, 1) := dk_84 (dk_at dksX7_init_24 0 rfl rfl)
theorem dX7_init_576 : decode cX7_init 576 = .ok (.dup, 1) := dk_89 (dk_at dksX7_init_24 1 rfl rfl)
theorem dX7_init_577 : decode cX7_init 577 = .ok (.bipush 84, 2) := dk_16 84 (dk_at dksX7_init_24 2 rfl rfl)
theorem dX7_init_579 : decode cX7_init 579 = .ok (.bipush 121, 2) := dk_16 121 (dk_at dksX7_init_24 4 rfl rfl)
theorem dX7_init_581 : decode cX7_init 581 = .ok (.bastore, 1) := dk_84 (dk_at dksX7_init_24 6 rfl rfl)
theorem dX7_init_582 : decode cX7_init 582 = .ok (.dup, 1) := dk_89 (dk_at dksX7_init_24 7 rfl rfl)
theorem dX7_init_583 : decode cX7_init 583 = .ok (.bipush 85, 2) := dk_16 85 (dk_at dksX7_init_24 8 rfl rfl)
theorem dX7_init_585 : decode cX7_init 585 = .ok (.bipush 32, 2) := dk_16 32 (dk_at dksX7_init_24 10 rfl rfl)
theorem dX7_init_587 : decode cX7_init 587 = .ok (.bastore, 1) := dk_84 (dk_at dksX7_init_24 12 rfl rfl)
theorem dX7_init_588 : decode cX7_init 588 = .ok (.dup, 1) := dk_89 (dk_at dksX7_init_24 13 rfl rfl)
theorem dX7_init_589 : decode cX7_init 589 = .ok (.bipush 86, 2) := dk_16 86 (dk_at dksX7_init_24 14 rfl rfl)
theorem dX7_init_591 : decode cX7_init 591 = .ok (.bipush 108, 2) := dk_16 108 (dk_at dksX7_init_24 16 rfl rfl)
theorem dX7_init_593 : decode cX7_init 593 = .ok (.bastore, 1) := dk_84 (dk_at dksX7_init_24 18 rfl rfl)
theorem dX7_init_594 : decode cX7_init 594 = .ok (.dup, 1) := dk_89 (dk_at dksX7_init_24 19 rfl rfl)
theorem dX7_init_595 : decode cX7_init 595 = .ok (.bipush 87, 2) := dk_16 87 (dk_at dksX7_init_24 20 rfl rfl)
theorem dX7_init_597 : decode cX7_init 597 = .ok (.bipush 111, 2) := dk_16 111 (dk_at dksX7_init_24 22 rfl rfl)
theorem dX7_init_599 : decode cX7_init 599 = .ok (.bastore, 1) := dk_84 (dk_at dksX7_init_25 0 rfl rfl)
theorem dX7_init_600 : decode cX7_init 600 = .ok (.dup, 1) := dk_89 (dk_at dksX7_init_25 1 rfl rfl)
theorem dX7_init_601 : decode cX7_init 601 = .ok (.bipush 88, 2) := dk_16 88 (dk_at dksX7_init_25 2 rfl rfl)
theorem dX7_init_603 : decode cX7_init 603 = .ok (.bipush 111, 2) := dk_16 111 (dk_at dksX7_init_25 4 rfl rfl)
theorem dX7_init_605 : decode cX7_init 605 = .ok (.bastore, 1) := dk_84 (dk_at dksX7_init_25 6 rfl rfl)
theorem dX7_init_606 : decode cX7_init 606 = .ok (.dup, 1) := dk_89 (dk_at dksX7_init_25 7 rfl rfl)
theorem dX7_init_607 : decode cX7_init 607 = .ok (.bipush 89, 2) := dk_16 89 (dk_at dksX7_init_25 8 rfl rfl)
theorem dX7_init_609 : decode cX7_init 609 = .ok (.bipush 112, 2) := dk_16 112 (dk_at dksX7_init_25 10 rfl rfl)
theorem dX7_init_611 : decode cX7_init 611 = .ok (.bastore, 1) := dk_84 (dk_at dksX7_init_25 12 rfl rfl)
theorem dX7_init_612 : decode cX7_init 612 = .ok (.dup, 1) := dk_89 (dk_at dksX7_init_25 13 rfl rfl)
theorem dX7_init_613 : decode cX7_init 613 = .ok (.bipush 90, 2) := dk_16 90 (dk_at dksX7_init_25 14 rfl rfl)
theorem dX7_init_615 : decode cX7_init 615 = .ok (.bipush 32, 2) := dk_16 32 (dk_at dksX7_init_25 16 rfl rfl)
theorem dX7_init_617 : decode cX7_init 617 = .ok (.bastore, 1) := dk_84 (dk_at dksX7_init_25 18 rfl rfl)
theorem dX7_init_618 : decode cX7_init 618 = .ok (.dup, 1) := dk_89 (dk_at dksX7_init_25 19 rfl rfl)
theorem dX7_init_619 : decode cX7_init 619 = .ok (.bipush 91, 2) := dk_16 91 (dk_at dksX7_init_25 20 rfl rfl)
theorem dX7_init_621 : decode cX7_init 621 = .ok (.bipush 116, 2) := dk_16 116 (dk_at dksX7_init_25 22 rfl rfl)
theorem dX7_init_623 : decode cX7_init 623 = .ok (.bastore, 1) := dk_84 (dk_at dksX7_init_26 0 rfl rfl)
theorem dX7_init_624 : decode cX7_init 624 = .ok (.dup, 1) := dk_89 (dk_at dksX7_init_26 1 rfl rfl)
theorem dX7_init_625 : decode cX7_init 625 = .ok (.bipush 92, 2) := dk_16 92 (dk_at dksX7_init_26 2 rfl rfl)
theorem dX7_init_627 : decode cX7_init 627 = .ok (.bipush 111, 2) := dk_16 111 (dk_at dksX7_init_26 4 rfl rfl)
theorem dX7_init_629 : decode cX7_init 629 = .ok (.bastore, 1) := dk_84 (dk_at dksX7_init_26 6 rfl rfl)
theorem dX7_init_630 : decode cX7_init 630 = .ok (.dup, 1) := dk_89 (dk_at dksX7_init_26 7 rfl rfl)
theorem dX7_init_631 : decode cX7_init 631 = .ok (.bipush 93, 2) := dk_16 93 (dk_at dksX7_init_26 8 rfl rfl)
theorem dX7_init_633 : decode cX7_init 633 = .ok (.bipush 32, 2) := dk_16 32 (dk_at dksX7_init_26 10 rfl rfl)
theorem dX7_init_635 : decode cX7_init 635 = .ok (.bastore, 1) := dk_84 (dk_at dksX7_init_26 12 rfl rfl)
theorem dX7_init_636 : decode cX7_init 636 = .ok (.dup, 1) := dk_89 (dk_at dksX7_init_26 13 rfl rfl)
theorem dX7_init_637 : decode cX7_init 637 = .ok (.bipush 94, 2) := dk_16 94 (dk_at dksX7_init_26 14 rfl rfl)
theorem dX7_init_639 : decode cX7_init 639 = .ok (.bipush 100, 2) := dk_16 100 (dk_at dksX7_init_26 16 rfl rfl)
theorem dX7_init_641 : decode cX7_init 641 = .ok (.bastore, 1) := dk_84 (dk_at dksX7_init_26 18 rfl rfl)
theorem dX7_init_642 : decode cX7_init 642 = .ok (.dup, 1) := dk_89 (dk_at dksX7_init_26 19 rfl rfl)
theorem dX7_init_643 : decode cX7_init 643 = .ok (.bipush 95, 2) := dk_16 95 (dk_at dksX7_init_26 20 rfl rfl)
theorem dX7_init_645 : decode cX7_init 645 = .ok (.bipush 114, 2) := dk_16 114 (dk_at dksX7_init_26 22 rfl rfl)
theorem dX7_init_647 : decode cX7_init 647 = .ok (.bastore, 1) := dk_84 (dk_at dksX7_init_27 0 rfl rfl)
theorem dX7_init_648 : decode cX7_init 648 = .ok (.dup, 1) := dk_89 (dk_at dksX7_init_27 1 rfl rfl)
theorem dX7_init_649 : decode cX7_init 649 = .ok (.bipush 96, 2) := dk_16 96 (dk_at dksX7_init_27 2 rfl rfl)
theorem dX7_init_651 : decode cX7_init 651 = .ok (.bipush 111, 2) := dk_16 111 (dk_at dksX7_init_27 4 rfl rfl)
theorem dX7_init_653 : decode cX7_init 653 = .ok (.bastore, 1) := dk_84 (dk_at dksX7_init_27 6 rfl rfl)
theorem dX7_init_654 : decode cX7_init 654 = .ok (.dup, 1) := dk_89 (dk_at dksX7_init_27 7 rfl rfl)
theorem dX7_init_655 : decode cX7_init 655 = .ok (.bipush 97, 2) := dk_16 97 (dk_at dksX7_init_27 8 rfl rfl)
theorem dX7_init_657 : decode cX7_init 657 = .ok (.bipush 112, 2) := dk_16 112 (dk_at dksX7_init_27 10 rfl rfl)
theorem dX7_init_659 : decode cX7_init 659 = .ok (.bastore, 1) := dk_84 (dk_at dksX7_init_27 12 rfl rfl)
theorem dX7_init_660 : decode cX7_init 660 = .ok (.dup, 1) := dk_89 (dk_at dksX7_init_27 13 rfl rfl)
theorem dX7_init_661 : decode cX7_init 661 = .ok (.bipush 98, 2) := dk_16 98 (dk_at dksX7_init_27 14 rfl rfl)
theorem dX7_init_663 : decode cX7_init 663 = .ok (.bipush 32, 2) := dk_16 32 (dk_at dksX7_init_27 16 rfl rfl)
theorem dX7_init_665 : decode cX7_init 665 = .ok (.bastore, 1) := dk_84 (dk_at dksX7_init_27 18 rfl rfl)
theorem dX7_init_666 : decode cX7_init 666 = .ok (.dup, 1) := dk_89 (dk_at dksX7_init_27 19 rfl rfl)
theorem dX7_init_667 : decode cX7_init 667 = .ok (.bipush 99, 2) := dk_16 99 (dk_at dksX7_init_27 20 rfl rfl)
theorem dX7_init_669 : decode cX7_init 669 = .ok (.bipush 112, 2) := dk_16 112 (dk_at dksX7_init_27 22 rfl rfl)
theorem dX7_init_671 : decode cX7_init 671 = .ok (.bastore, 1) := dk_84 (dk_at dksX7_init_28 0 rfl rfl)
theorem dX7_init_672 : decode cX7_init 672 = .ok (.dup, 1) := dk_89 (dk_at dksX7_init_28 1 rfl rfl)
theorem dX7_init_673 : decode cX7_init 673 = .ok (.bipush 100, 2) := dk_16 100 (dk_at dksX7_init_28 2 rfl rfl)
theorem dX7_init_675 : decode cX7_init 675 = .ok (.bipush 97, 2) := dk_16 97 (dk_at dksX7_init_28 4 rfl rfl)
theorem dX7_init_677 : decode cX7_init 677 = .ok (.bastore, 1) := dk_84 (dk_at dksX7_init_28 6 rfl rfl)
theorem dX7_init_678 : decode cX7_init 678 = .ok (.dup, 1) := dk_89 (dk_at dksX7_init_28 7 rfl rfl)
theorem dX7_init_679 : decode cX7_init 679 = .ok (.bipush 101, 2) := dk_16 101 (dk_at dksX7_init_28 8 rfl rfl)
theorem dX7_init_681 : decode cX7_init 681 = .ok (.bipush 115, 2) := dk_16 115 (dk_at dksX7_init_28 10 rfl rfl)
theorem dX7_init_683 : decode cX7_init 683 = .ok (.bastore, 1) := dk_84 (dk_at dksX7_init_28 12 rfl rfl)
theorem dX7_init_684 : decode cX7_init 684 = .ok (.dup, 1) := dk_89 (dk_at dksX7_init_28 13 rfl rfl)
theorem dX7_init_685 : decode cX7_init 685 = .ok (.bipush 102, 2) := dk_16 102 (dk_at dksX7_init_28 14 rfl rfl)
theorem dX7_init_687 : decode cX7_init 687 = .ok (.bipush 115, 2) := dk_16 115 (dk_at dksX7_init_28 16 rfl rfl)
theorem dX7_init_689 : decode cX7_init 689 = .ok (.bastore, 1) := dk_84 (dk_at dksX7_init_28 18 rfl rfl)
theorem dX7_init_690 : decode cX7_init 690 = .ok (.dup, 1) := dk_89 (dk_at dksX7_init_28 19 rfl rfl)
theorem dX7_init_691 : decode cX7_init 691 = .ok (.bipush 103, 2) := dk_16 103 (dk_at dksX7_init_28 20 rfl rfl)
theorem dX7_init_693 : decode cX7_init 693 = .ok (.bipush 32, 2) := dk_16 32 (dk_at dksX7_init_28 22 rfl rfl)
theorem dX7_init_695 : decode cX7_init 695 = .ok (.bastore, 1) := dk_84 (dk_at dksX7_init_29 0 rfl rfl)
theorem dX7_init_696 : decode cX7_init 696 = .ok (.dup, 1) := dk_89 (dk_at dksX7_init_29 1 rfl rfl)
theorem dX7_init_697 : decode cX7_init 697 = .ok (.bipush 104, 2) := dk_16 104 (dk_at dksX7_init_29 2 rfl rfl)
theorem dX7_init_699 : decode cX7_init 699 = .ok (.bipush 116, 2) := dk_16 116 (dk_at dksX7_init_29 4 rfl rfl)
theorem dX7_init_701 : decode cX7_init 701 = .ok (.bastore, 1) := dk_84 (dk_at dksX7_init_29 6 rfl rfl)
theorem dX7_init_702 : decode cX7_init 702 = .ok (.dup, 1) := dk_89 (dk_at dksX7_init_29 7 rfl rfl)
theorem dX7_init_703 : decode cX7_init 703 = .ok (.bipush 105, 2) := dk_16 105 (dk_at dksX7_init_29 8 rfl rfl)
theorem dX7_init_705 : decode cX7_init 705 = .ok (.bipush 105, 2) := dk_16 105 (dk_at dksX7_init_29 10 rfl rfl)
theorem dX7_init_707 : decode cX7_init 707 = .ok (.bastore, 1) := dk_84 (dk_at dksX7_init_29 12 rfl rfl)
theorem dX7_init_708 : decode cX7_init 708 = .ok (.dup, 1) := dk_89 (dk_at dksX7_init_29 13 rfl rfl)
theorem dX7_init_709 : decode cX7_init 709 = .ok (.bipush 106, 2) := dk_16 106 (dk_at dksX7_init_29 14 rfl rfl)
theorem dX7_init_711 : decode cX7_init 711 = .ok (.bipush 109, 2) := dk_16 109 (dk_at dksX7_init_29 16 rfl rfl)
theorem dX7_init_713 : decode cX7_init 713 = .ok (.bastore, 1) := dk_84 (dk_at dksX7_init_29 18 rfl rfl)
theorem dX7_init_714 : decode cX7_init 714 = .ok (.dup, 1) := dk_89 (dk_at dksX7_init_29 19 rfl rfl)
theorem dX7_init_715 : decode cX7_init 715 = .ok (.bipush 107, 2) := dk_16 107 (dk_at dksX7_init_29 20 rfl rfl)
theorem dX7_init_717 : decode cX7_init 717 = .ok (.bipush 101, 2) := dk_16 101 (dk_at dksX7_init_29 22 rfl rfl)
theorem dX7_init_719 : decode cX7_init 719 = .ok (.bastore, 1) := dk_84 (dk_at dksX7_init_30 0 rfl rfl)
theorem dX7_init_720 : decode cX7_init 720 = .ok (.dup, 1) := dk_89 (dk_at dksX7_init_30 1 rfl rfl)
theorem dX7_init_721 : decode cX7_init 721 = .ok (.bipush 108, 2) := dk_16 108 (dk_at dksX7_init_30 2 rfl rfl)
theorem dX7_init_723 : decode cX7_init 723 = .ok (.bipush 115, 2) := dk_16 115 (dk_at dksX7_init_30 4 rfl rfl)
theorem dX7_init_725 : decode cX7_init 725 = .ok (.bastore, 1) := dk_84 (dk_at dksX7_init_30 6 rfl rfl)
theorem dX7_init_726 : decode cX7_init 726 = .ok (.dup, 1) := dk_89 (dk_at dksX7_init_30 7 rfl rfl)
theorem dX7_init_727 : decode cX7_init 727 = .ok (.bipush 109, 2) := dk_16 109 (dk_at dksX7_init_30 8 rfl rfl)
theorem dX7_init_729 : decode cX7_init 729 = .ok (.bipush 32, 2) := dk_16 32 (dk_at dksX7_init_30 10 rfl rfl)
theorem dX7_init_731 : decode cX7_init 731 = .ok (.bastore, 1) := dk_84 (dk_at dksX7_init_30 12 rfl rfl)
theorem dX7_init_732 : decode cX7_init 732 = .ok (.dup, 1) := dk_89 (dk_at dksX7_init_30 13 rfl rfl)
theorem dX7_init_733 : decode cX7_init 733 = .ok (.bipush 110, 2) := dk_16 110 (dk_at dksX7_init_30 14 rfl rfl)
theorem dX7_init_735 : decode cX7_init 735 = .ok (.bipush 108, 2) := dk_16 108 (dk_at dksX7_init_30 16 rfl rfl)
theorem dX7_init_737 : decode cX7_init 737 = .ok (.bastore, 1) := dk_84 (dk_at dksX7_init_30 18 rfl rfl)
theorem dX7_init_738 : decode cX7_init 738 = .ok (.dup, 1) := dk_89 (dk_at dksX7_init_30 19 rfl rfl)
theorem dX7_init_739 : decode cX7_init 739 = .ok (.bipush 111, 2) := dk_16 111 (dk_at dksX7_init_30 20 rfl rfl)
theorem dX7_init_741 : decode cX7_init 741 = .ok (.bipush 114, 2) := dk_16 114 (dk_at dksX7_init_30 22 rfl rfl)
theorem dX7_init_743 : decode cX7_init 743 = .ok (.bastore, 1) := dk_84 (dk_at dksX7_init_31 0 rfl rfl)
theorem dX7_init_744 : decode cX7_init 744 = .ok (.dup, 1) := dk_89 (dk_at dksX7_init_31 1 rfl rfl)
theorem dX7_init_745 : decode cX7_init 745 = .ok (.bipush 112, 2) := dk_16 112 (dk_at dksX7_init_31 2 rfl rfl)
theorem dX7_init_747 : decode cX7_init 747 = .ok (.bipush 117, 2) := dk_16 117 (dk_at dksX7_init_31 4 rfl rfl)
theorem dX7_init_749 : decode cX7_init 749 = .ok (.bastore, 1) := dk_84 (dk_at dksX7_init_31 6 rfl rfl)
theorem dX7_init_750 : decode cX7_init 750 = .ok (.dup, 1) := dk_89 (dk_at dksX7_init_31 7 rfl rfl)
theorem dX7_init_751 : decode cX7_init 751 = .ok (.bipush 113, 2) := dk_16 113 (dk_at dksX7_init_31 8 rfl rfl)
theorem dX7_init_753 : decode cX7_init 753 = .ok (.bipush 32, 2) := dk_16 32 (dk_at dksX7_init_31 10 rfl rfl)
theorem dX7_init_755 : decode cX7_init 755 = .ok (.bastore, 1) := dk_84 (dk_at dksX7_init_31 12 rfl rfl)
theorem dX7_init_756 : decode cX7_init 756 = .ok (.dup, 1) := dk_89 (dk_at dksX7_init_31 13 rfl rfl)
theorem dX7_init_757 : decode cX7_init 757 = .ok (.bipush 114, 2) := dk_16 114 (dk_at dksX7_init_31 14 rfl rfl)
theorem dX7_init_759 : decode cX7_init 759 = .ok (.bipush 109, 2) := dk_16 109 (dk_at dksX7_init_31 16 rfl rfl)
theorem dX7_init_761 : decode cX7_init 761 = .ok (.bastore, 1) := dk_84 (dk_at dksX7_init_31 18 rfl rfl)
theorem dX7_init_762 : decode cX7_init 762 = .ok (.dup, 1) := dk_89 (dk_at dksX7_init_31 19 rfl rfl)
theorem dX7_init_763 : decode cX7_init 763 = .ok (.bipush 115, 2) := dk_16 115 (dk_at dksX7_init_31 20 rfl rfl)
theorem dX7_init_765 : decode cX7_init 765 = .ok (.bipush 114, 2) := dk_16 114 (dk_at dksX7_init_31 22 rfl rfl)
theorem dX7_init_767 : decode cX7_init 767 = .ok (.bastore, 1) := dk_84 (dk_at dksX7_init_32 0 rfl rfl)
theorem dX7_init_768 : decode cX7_init 768 = .ok (.dup, 1) := dk_89 (dk_at dksX7_init_32 1 rfl rfl)
theorem dX7_init_769 : decode cX7_init 769 = .ok (.bipush 116, 2) := dk_16 116 (dk_at dksX7_init_32 2 rfl rfl)
theorem dX7_init_771 : decode cX7_init 771 = .ok (.bipush 117, 2) := dk_16 117 (dk_at dksX7_init_32 4 rfl rfl)
theorem dX7_init_773 : decode cX7_init 773 = .ok (.bastore, 1) := dk_84 (dk_at dksX7_init_32 6 rfl rfl)
theorem dX7_init_774 : decode cX7_init 774 = .ok (.dup, 1) := dk_89 (dk_at dksX7_init_32 7 rfl rfl)
theorem dX7_init_775 : decode cX7_init 775 = .ok (.bipush 117, 2) := dk_16 117 (dk_at dksX7_init_32 8 rfl rfl)
theorem dX7_init_777 : decode cX7_init 777 = .ok (.bipush 32, 2) := dk_16 32 (dk_at dksX7_init_32 10 rfl rfl)
theorem dX7_init_779 : decode cX7_init 779 = .ok (.bastore, 1) := dk_84 (dk_at dksX7_init_32 12 rfl rfl)
theorem dX7_init_780 : decode cX7_init 780 = .ok (.dup, 1) := dk_89 (dk_at dksX7_init_32 13 rfl rfl)
theorem dX7_init_781 : decode cX7_init 781 = .ok (.bipush 118, 2) := dk_16 118 (dk_at dksX7_init_32 14 rfl rfl)
theorem dX7_init_783 : decode cX7_init 783 = .ok (.bipush 102, 2) := dk_16 102 (dk_at dksX7_init_32 16 rfl rfl)
theorem dX7_init_785 : decode cX7_init 785 = .ok (.bastore, 1) := dk_84 (dk_at dksX7_init_32 18 rfl rfl)
theorem dX7_init_786 : decode cX7_init 786 = .ok (.dup, 1) := dk_89 (dk_at dksX7_init_32 19 rfl rfl)
theorem dX7_init_787 : decode cX7_init 787 = .ok (.bipush 119, 2) := dk_16 119 (dk_at dksX7_init_32 20 rfl rfl)
theorem dX7_init_789 : decode cX7_init 789 = .ok (.bipush 105, 2) := dk_16 105 (dk_at dksX7_init_32 22 rfl rfl)
theorem dX7_init_791 : decode cX7_init 791 = .ok (.bastore, 1) := dk_84 (dk_at dksX7_init_33 0 rfl rfl)
theorem dX7_init_792 : decode cX7_init 792 = .ok (.dup, 1) := dk_89 (dk_at dksX7_init_33 1 rfl rfl)
theorem dX7_init_793 : decode cX7_init 793 = .ok (.bipush 120, 2) := dk_16 120 (dk_at dksX7_init_33 2 rfl rfl)
theorem dX7_init_795 : decode cX7_init 795 = .ok (.bipush 102, 2) := dk_16 102 (dk_at dksX7_init_33 4 rfl rfl)
theorem dX7_init_797 : decode cX7_init 797 = .ok (.bastore, 1) := dk_84 (dk_at dksX7_init_33 6 rfl rfl)
theorem dX7_init_798 : decode cX7_init 798 = .ok (.dup, 1) := dk_89 (dk_at dksX7_init_33 7 rfl rfl)
theorem dX7_init_799 : decode cX7_init 799 = .ok (.bipush 121, 2) := dk_16 121 (dk_at dksX7_init_33 8 rfl rfl)
theorem dX7_init_801 : decode cX7_init 801 = .ok (.bipush 111, 2) := dk_16 111 (dk_at dksX7_init_33 10 rfl rfl)
theorem dX7_init_803 : decode cX7_init 803 = .ok (.bastore, 1) := dk_84 (dk_at dksX7_init_33 12 rfl rfl)
theorem dX7_init_804 : decode cX7_init 804 = .ok (.dup, 1) := dk_89 (dk_at dksX7_init_33 13 rfl rfl)
theorem dX7_init_805 : decode cX7_init 805 = .ok (.bipush 122, 2) := dk_16 122 (dk_at dksX7_init_33 14 rfl rfl)
theorem dX7_init_807 : decode cX7_init 807 = .ok (.bipush 32, 2) := dk_16 32 (dk_at dksX7_init_33 16 rfl rfl)
theorem dX7_init_809 : decode cX7_init 809 = .ok (.bastore, 1) := dk_84 (dk_at dksX7_init_33 18 rfl rfl)
theorem dX7_init_810 : decode cX7_init 810 = .ok (.dup, 1) := dk_89 (dk_at dksX7_init_33 19 rfl rfl)
theorem dX7_init_811 : decode cX7_init 811 = .ok (.bipush 123, 2) := dk_16 123 (dk_at dksX7_init_33 20 rfl rfl)
theorem dX7_init_813 : decode cX7_init 813 = .ok (.bipush 108, 2) := dk_16 108 (dk_at dksX7_init_33 22 rfl rfl)
theorem dX7_init_815 : decode cX7_init 815 = .ok (.bastore, 1) := dk_84 (dk_at dksX7_init_34 0 rfl rfl)
theorem dX7_init_816 : decode cX7_init 816 = .ok (.dup, 1) := dk_89 (dk_at dksX7_init_34 1 rfl rfl)
theorem dX7_init_817 : decode cX7_init 817 = .ok (.bipush 124, 2) := dk_16 124 (dk_at dksX7_init_34 2 rfl rfl)
theorem dX7_init_819 : decode cX7_init 819 = .ok (.bipush 102, 2) := dk_16 102 (dk_at dksX7_init_34 4 rfl rfl)
theorem dX7_init_821 : decode cX7_init 821 = .ok (.bastore, 1) := dk_84 (dk_at dksX7_init_34 6 rfl rfl)
theorem dX7_init_822 : decode cX7_init 822 = .ok (.dup, 1) := dk_89 (dk_at dksX7_init_34 7 rfl rfl)
theorem dX7_init_823 : decode cX7_init 823 = .ok (.bipush 125, 2) := dk_16 125 (dk_at dksX7_init_34 8 rfl rfl)
theorem dX7_init_825 : decode cX7_init 825 = .ok (.bipush 117, 2) := dk_16 117 (dk_at dksX7_init_34 10 rfl rfl)
theorem dX7_init_827 : decode cX7_init 827 = .ok (.bastore, 1) := dk_84 (dk_at dksX7_init_34 12 rfl rfl)
theorem dX7_init_828 : decode cX7_init 828 = .ok (.dup, 1) := dk_89 (dk_at dksX7_init_34 13 rfl rfl)
theorem dX7_init_829 : decode cX7_init 829 = .ok (.bipush 126, 2) := dk_16 126 (dk_at dksX7_init_34 14 rfl rfl)
theorem dX7_init_831 : decode cX7_init 831 = .ok (.bipush 32, 2) := dk_16 32 (dk_at dksX7_init_34 16 rfl rfl)
theorem dX7_init_833 : decode cX7_init 833 = .ok (.bastore, 1) := dk_84 (dk_at dksX7_init_34 18 rfl rfl)
theorem dX7_init_834 : decode cX7_init 834 = .ok (.dup, 1) := dk_89 (dk_at dksX7_init_34 19 rfl rfl)
theorem dX7_init_835 : decode cX7_init 835 = .ok (.bipush 127, 2) := dk_16 127 (dk_at dksX7_init_34 20 rfl rfl)
theorem dX7_init_837 : decode cX7_init 837 = .ok (.bipush 109, 2) := dk_16 109 (dk_at dksX7_init_34 22 rfl rfl)
theorem dX7_init_839 : decode cX7_init 839 = .ok (.bastore, 1) := dk_84 (dk_at dksX7_init_35 0 rfl rfl)
theorem dX7_init_840 : decode cX7_init 840 = .ok (.dup, 1) := dk_89 (dk_at dksX7_init_35 1 rfl rfl)
theorem dX7_init_841 : decode cX7_init 841 = .ok (.sipush 128, 3) := dk_17 0 128 (dk_at dksX7_init_35 2 rfl rfl)
theorem dX7_init_844 : decode cX7_init 844 = .ok (.bipush 105, 2) := dk_16 105 (dk_at dksX7_init_35 5 rfl rfl)
theorem dX7_init_846 : decode cX7_init 846 = .ok (.bastore, 1) := dk_84 (dk_at dksX7_init_35 7 rfl rfl)
theorem dX7_init_847 : decode cX7_init 847 = .ok (.dup, 1) := dk_89 (dk_at dksX7_init_35 8 rfl rfl)
theorem dX7_init_848 : decode cX7_init 848 = .ok (.sipush 129, 3) := dk_17 0 129 (dk_at dksX7_init_35 9 rfl rfl)
theorem dX7_init_851 : decode cX7_init 851 = .ok (.bipush 110, 2) := dk_16 110 (dk_at dksX7_init_35 12 rfl rfl)
theorem dX7_init_853 : decode cX7_init 853 = .ok (.bastore, 1) := dk_84 (dk_at dksX7_init_35 14 rfl rfl)
theorem dX7_init_854 : decode cX7_init 854 = .ok (.dup, 1) := dk_89 (dk_at dksX7_init_35 15 rfl rfl)
theorem dX7_init_855 : decode cX7_init 855 = .ok (.sipush 130, 3) := dk_17 0 130 (dk_at dksX7_init_35 16 rfl rfl)
theorem dX7_init_858 : decode cX7_init 858 = .ok (.bipush 32, 2) := dk_16 32 (dk_at dksX7_init_35 19 rfl rfl)
theorem dX7_init_860 : decode cX7_init 860 = .ok (.bastore, 1) := dk_84 (dk_at dksX7_init_35 21 rfl rfl)
theorem dX7_init_861 : decode cX7_init 861 = .ok (.putfield 51, 3) := dk_181 0 51 (dk_at dksX7_init_36 0 rfl rfl)
theorem dX7_init_864 : decode cX7_init 864 = .ok (.aload_n 0, 1) := dk_42 (dk_at dksX7_init_36 3 rfl rfl)
theorem dX7_init_865 : decode cX7_init 865 = .ok (.sipush 400, 3) := dk_17 1 144 (dk_at dksX7_init_36 4 rfl rfl)
theorem dX7_init_868 : decode cX7_init 868 = .ok (.newarray .byte, 2) := dk_188_8 (dk_at dksX7_init_36 7 rfl rfl)
theorem dX7_init_870 : decode cX7_init 870 = .ok (.putfield 55, 3) := dk_181 0 55 (dk_at dksX7_init_36 9 rfl rfl)
theorem dX7_init_873 : decode cX7_init 873 = .ok (.aload_n 0, 1) := dk_42 (dk_at dksX7_init_36 12 rfl rfl)
theorem dX7_init_874 : decode cX7_init 874 = .ok (.iconst 5, 1) := dk_8 (dk_at dksX7_init_36 13 rfl rfl)
theorem dX7_init_875 : decode cX7_init 875 = .ok (.newarray .int, 2) := dk_188_10 (dk_at dksX7_init_36 14 rfl rfl)
theorem dX7_init_877 : decode cX7_init 877 = .ok (.putfield 58, 3) := dk_181 0 58 (dk_at dksX7_init_36 16 rfl rfl)
theorem dX7_init_880 : decode cX7_init 880 = .ok (.aload_n 0, 1) := dk_42 (dk_at dksX7_init_36 19 rfl rfl)
theorem dX7_init_881 : decode cX7_init 881 = .ok (.iconst (-1), 1) := dk_2 (dk_at dksX7_init_36 20 rfl rfl)
theorem dX7_init_882 : decode cX7_init 882 = .ok (.putfield 61, 3) := dk_181 0 61 (dk_at dksX7_init_36 21 rfl rfl)
theorem dX7_init_885 : decode cX7_init 885 = .ok (.aload_n 0, 1) := dk_42 (dk_at dksX7_init_37 0 rfl rfl)
theorem dX7_init_886 : decode cX7_init 886 = .ok (.sipush 401, 3) := dk_17 1 145 (dk_at dksX7_init_37 1 rfl rfl)
theorem dX7_init_889 : decode cX7_init 889 = .ok (.newarray .int, 2) := dk_188_10 (dk_at dksX7_init_37 4 rfl rfl)
theorem dX7_init_891 : decode cX7_init 891 = .ok (.putfield 64, 3) := dk_181 0 64 (dk_at dksX7_init_37 6 rfl rfl)
theorem dX7_init_894 : decode cX7_init 894 = .ok (.aload_n 0, 1) := dk_42 (dk_at dksX7_init_37 9 rfl rfl)
theorem dX7_init_895 : decode cX7_init 895 = .ok (.sipush 401, 3) := dk_17 1 145 (dk_at dksX7_init_37 10 rfl rfl)
theorem dX7_init_898 : decode cX7_init 898 = .ok (.newarray .int, 2) := dk_188_10 (dk_at dksX7_init_37 13 rfl rfl)
theorem dX7_init_900 : decode cX7_init 900 = .ok (.putfield 67, 3) := dk_181 0 67 (dk_at dksX7_init_37 15 rfl rfl)
theorem dX7_init_903 : decode cX7_init 903 = .ok (.aload_n 0, 1) := dk_42 (dk_at dksX7_init_37 18 rfl rfl)
theorem dX7_init_904 : decode cX7_init 904 = .ok (.sipush 401, 3) := dk_17 1 145 (dk_at dksX7_init_37 19 rfl rfl)
theorem dX7_init_907 : decode cX7_init 907 = .ok (.newarray .int, 2) := dk_188_10 (dk_at dksX7_init_37 22 rfl rfl)
theorem dX7_init_909 : decode cX7_init 909 = .ok (.putfield 70, 3) := dk_181 0 70 (dk_at dksX7_init_38 0 rfl rfl)
theorem dX7_init_912 : decode cX7_init 912 = .ok (.aload_n 0, 1) := dk_42 (dk_at dksX7_init_38 3 rfl rfl)
theorem dX7_init_913 : decode cX7_init 913 = .ok (.bipush 6, 2) := dk_16 6 (dk_at dksX7_init_38 4 rfl rfl)
theorem dX7_init_915 : decode cX7_init 915 = .ok (.newarray .int, 2) := dk_188_10 (dk_at dksX7_init_38 6 rfl rfl)
theorem dX7_init_917 : decode cX7_init 917 = .ok (.putfield 73, 3) := dk_181 0 73 (dk_at dksX7_init_38 8 rfl rfl)
theorem dX7_init_920 : decode cX7_init 920 = .ok (.aload_n 0, 1) := dk_42 (dk_at dksX7_init_38 11 rfl rfl)
theorem dX7_init_921 : decode cX7_init 921 = .ok (.sipush 5920, 3) := dk_17 23 32 (dk_at dksX7_init_38 12 rfl rfl)
theorem dX7_init_924 : decode cX7_init 924 = .ok (.newarray .int, 2) := dk_188_10 (dk_at dksX7_init_38 15 rfl rfl)
theorem dX7_init_926 : decode cX7_init 926 = .ok (.putfield 76, 3) := dk_181 0 76 (dk_at dksX7_init_38 17 rfl rfl)
theorem dX7_init_929 : decode cX7_init 929 = .ok (.aload_n 0, 1) := dk_42 (dk_at dksX7_init_38 20 rfl rfl)
theorem dX7_init_930 : decode cX7_init 930 = .ok (.sipush 1600, 3) := dk_17 6 64 (dk_at dksX7_init_38 21 rfl rfl)
theorem dX7_init_933 : decode cX7_init 933 = .ok (.newarray .long, 2) := dk_188_11 (dk_at dksX7_init_39 0 rfl rfl)
theorem dX7_init_935 : decode cX7_init 935 = .ok (.putfield 79, 3) := dk_181 0 79 (dk_at dksX7_init_39 2 rfl rfl)
theorem dX7_init_938 : decode cX7_init 938 = .ok (.aload_n 0, 1) := dk_42 (dk_at dksX7_init_39 5 rfl rfl)
theorem dX7_init_939 : decode cX7_init 939 = .ok (.sipush 5920, 3) := dk_17 23 32 (dk_at dksX7_init_39 6 rfl rfl)
theorem dX7_init_942 : decode cX7_init 942 = .ok (.newarray .int, 2) := dk_188_10 (dk_at dksX7_init_39 9 rfl rfl)
theorem dX7_init_944 : decode cX7_init 944 = .ok (.putfield 82, 3) := dk_181 0 82 (dk_at dksX7_init_39 11 rfl rfl)
theorem dX7_init_947 : decode cX7_init 947 = .ok (.aload_n 0, 1) := dk_42 (dk_at dksX7_init_39 14 rfl rfl)
theorem dX7_init_948 : decode cX7_init 948 = .ok (.sipush 1600, 3) := dk_17 6 64 (dk_at dksX7_init_39 15 rfl rfl)
theorem dX7_init_951 : decode cX7_init 951 = .ok (.newarray .long, 2) := dk_188_11 (dk_at dksX7_init_39 18 rfl rfl)
theorem dX7_init_953 : decode cX7_init 953 = .ok (.putfield 85, 3) := dk_181 0 85 (dk_at dksX7_init_39 20 rfl rfl)
theorem dX7_init_956 : decode cX7_init 956 = .ok (.aload_n 0, 1) := dk_42 (dk_at dksX7_init_39 23 rfl rfl)
theorem dX7_init_957 : decode cX7_init 957 = .ok (.bipush 100, 2) := dk_16 100 (dk_at dksX7_init_40 0 rfl rfl)
theorem dX7_init_959 : decode cX7_init 959 = .ok (.newarray .int, 2) := dk_188_10 (dk_at dksX7_init_40 2 rfl rfl)
theorem dX7_init_961 : decode cX7_init 961 = .ok (.putfield 88, 3) := dk_181 0 88 (dk_at dksX7_init_40 4 rfl rfl)
theorem dX7_init_964 : decode cX7_init 964 = .ok (.aload_n 0, 1) := dk_42 (dk_at dksX7_init_40 7 rfl rfl)
theorem dX7_init_965 : decode cX7_init 965 = .ok (.bipush 100, 2) := dk_16 100 (dk_at dksX7_init_40 8 rfl rfl)
theorem dX7_init_967 : decode cX7_init 967 = .ok (.newarray .int, 2) := dk_188_10 (dk_at dksX7_init_40 10 rfl rfl)
theorem dX7_init_969 : decode cX7_init 969 = .ok (.putfield 91, 3) := dk_181 0 91 (dk_at dksX7_init_40 12 rfl rfl)
theorem dX7_init_972 : decode cX7_init 972 = .ok (.aload_n 0, 1) := dk_42 (dk_at dksX7_init_40 15 rfl rfl)
theorem dX7_init_973 : decode cX7_init 973 = .ok (.iconst 4, 1) := dk_7 (dk_at dksX7_init_40 16 rfl rfl)
theorem dX7_init_974 : decode cX7_init 974 = .ok (.newarray .int, 2) := dk_188_10 (dk_at dksX7_init_40 17 rfl rfl)
theorem dX7_init_976 : decode cX7_init 976 = .ok (.putfield 94, 3) := dk_181 0 94 (dk_at dksX7_init_40 19 rfl rfl)
theorem dX7_init_979 : decode cX7_init 979 = .ok (.aload_n 0, 1) := dk_42 (dk_at dksX7_init_40 22 rfl rfl)
theorem dX7_init_980 : decode cX7_init 980 = .ok (.sipush 400, 3) := dk_17 1 144 (dk_at dksX7_init_41 0 rfl rfl)
theorem dX7_init_983 : decode cX7_init 983 = .ok (.newarray .byte, 2) := dk_188_8 (dk_at dksX7_init_41 3 rfl rfl)
theorem dX7_init_985 : decode cX7_init 985 = .ok (.putfield 97, 3) := dk_181 0 97 (dk_at dksX7_init_41 5 rfl rfl)
theorem dX7_init_988 : decode cX7_init 988 = .ok (.aload_n 0, 1) := dk_42 (dk_at dksX7_init_41 8 rfl rfl)
theorem dX7_init_989 : decode cX7_init 989 = .ok (.bipush 12, 2) := dk_16 12 (dk_at dksX7_init_41 9 rfl rfl)
theorem dX7_init_991 : decode cX7_init 991 = .ok (.newarray .byte, 2) := dk_188_8 (dk_at dksX7_init_41 11 rfl rfl)
theorem dX7_init_993 : decode cX7_init 993 = .ok (.putfield 100, 3) := dk_181 0 100 (dk_at dksX7_init_41 13 rfl rfl)
theorem dX7_init_996 : decode cX7_init 996 = .ok (.aload_n 0, 1) := dk_42 (dk_at dksX7_init_41 16 rfl rfl)
theorem dX7_init_997 : decode cX7_init 997 = .ok (.iconst 4, 1) := dk_7 (dk_at dksX7_init_41 17 rfl rfl)
theorem dX7_init_998 : decode cX7_init 998 = .ok (.newarray .int, 2) := dk_188_10 (dk_at dksX7_init_41 18 rfl rfl)
theorem dX7_init_1000 : decode cX7_init 1000 = .ok (.putfield 103, 3) := dk_181 0 103 (dk_at dksX7_init_41 20 rfl rfl)
theorem dX7_init_1003 : decode cX7_init 1003 = .ok (.aload_n 0, 1) := dk_42 (dk_at dksX7_init_41 23 rfl rfl)
theorem dX7_init_1004 : decode cX7_init 1004 = .ok (.sipush 245, 3) := dk_17 0 245 (dk_at dksX7_init_42 0 rfl rfl)
theorem dX7_init_1007 : decode cX7_init 1007 = .ok (.newarray .int, 2) := dk_188_10 (dk_at dksX7_init_42 3 rfl rfl)
theorem dX7_init_1009 : decode cX7_init 1009 = .ok (.putfield 106, 3) := dk_181 0 106 (dk_at dksX7_init_42 5 rfl rfl)
theorem dX7_init_1012 : decode cX7_init 1012 = .ok (.aload_n 0, 1) := dk_42 (dk_at dksX7_init_42 8 rfl rfl)
theorem dX7_init_1013 : decode cX7_init 1013 = .ok (.bipush 32, 2) := dk_16 32 (dk_at dksX7_init_42 9 rfl rfl)
theorem dX7_init_1015 : decode cX7_init 1015 = .ok (.newarray .int, 2) := dk_188_10 (dk_at dksX7_init_42 11 rfl rfl)
theorem dX7_init_1017 : decode cX7_init 1017 = .ok (.putfield 109, 3) := dk_181 0 109 (dk_at dksX7_init_42 13 rfl rfl)
theorem dX7_init_1020 : decode cX7_init 1020 = .ok (.aload_n 0, 1) := dk_42 (dk_at dksX7_init_42 16 rfl rfl)
theorem dX7_init_1021 : decode cX7_init 1021 = .ok (.bipush 32, 2) := dk_16 32 (dk_at dksX7_init_42 17 rfl rfl)
theorem dX7_init_1023 : decode cX7_init 1023 = .ok (.newarray .int, 2) := dk_188_10 (dk_at dksX7_init_42 19 rfl rfl)
theorem dX7_init_1025 : decode cX7_init 1025 = .ok (.putfield 112, 3) := dk_181 0 112 (dk_at dksX7_init_42 21 rfl rfl)
theorem dX7_init_1028 : decode cX7_init 1028 = .ok (.aload_n 0, 1) := dk_42 (dk_at dksX7_init_43 0 rfl rfl)
theorem dX7_init_1029 : decode cX7_init 1029 = .ok (.bipush 32, 2) := dk_16 32 (dk_at dksX7_init_43 1 rfl rfl)
theorem dX7_init_1031 : decode cX7_init 1031 = .ok (.newarray .int, 2) := dk_188_10 (dk_at dksX7_init_43 3 rfl rfl)
theorem dX7_init_1033 : decode cX7_init 1033 = .ok (.putfield 115, 3) := dk_181 0 115 (dk_at dksX7_init_43 5 rfl rfl)
theorem dX7_init_1036 : decode cX7_init 1036 = .ok (.aload_n 0, 1) := dk_42 (dk_at dksX7_init_43 8 rfl rfl)
theorem dX7_init_1037 : decode cX7_init 1037 = .ok (.bipush 25, 2) := dk_16 25 (dk_at dksX7_init_43 9 rfl rfl)
theorem dX7_init_1039 : decode cX7_init 1039 = .ok (.newarray .long, 2) := dk_188_11 (dk_at dksX7_init_43 11 rfl rfl)
theorem dX7_init_1041 : decode cX7_init 1041 = .ok (.putfield 118, 3) := dk_181 0 118 (dk_at dksX7_init_43 13 rfl rfl)
theorem dX7_init_1044 : decode cX7_init 1044 = .ok (.aload_n 0, 1) := dk_42 (dk_at dksX7_init_43 16 rfl rfl)
theorem dX7_init_1045 : decode cX7_init 1045 = .ok (.sipush 800, 3) := dk_17 3 32 (dk_at dksX7_init_43 17 rfl rfl)
theorem dX7_init_1048 : decode cX7_init 1048 = .ok (.newarray .int, 2) := dk_188_10 (dk_at dksX7_init_43 20 rfl rfl)
theorem dX7_init_1050 : decode cX7_init 1050 = .ok (.putfield 121, 3) := dk_181 0 121 (dk_at dksX7_init_44 0 rfl rfl)
theorem dX7_init_1053 : decode cX7_init 1053 = .ok (.aload_n 0, 1) := dk_42 (dk_at dksX7_init_44 3 rfl rfl)
theorem dX7_init_1054 : decode cX7_init 1054 = .ok (.bipush 25, 2) := dk_16 25 (dk_at dksX7_init_44 4 rfl rfl)
theorem dX7_init_1056 : decode cX7_init 1056 = .ok (.newarray .int, 2) := dk_188_10 (dk_at dksX7_init_44 6 rfl rfl)
theorem dX7_init_1058 : decode cX7_init 1058 = .ok (.putfield 124, 3) := dk_181 0 124 (dk_at dksX7_init_44 8 rfl rfl)
theorem dX7_init_1061 : decode cX7_init 1061 = .ok (.aload_n 0, 1) := dk_42 (dk_at dksX7_init_44 11 rfl rfl)
theorem dX7_init_1062 : decode cX7_init 1062 = .ok (.bipush 21, 2) := dk_16 21 (dk_at dksX7_init_44 12 rfl rfl)
theorem dX7_init_1064 : decode cX7_init 1064 = .ok (.newarray .long, 2) := dk_188_11 (dk_at dksX7_init_44 14 rfl rfl)
theorem dX7_init_1066 : decode cX7_init 1066 = .ok (.putfield 127, 3) := dk_181 0 127 (dk_at dksX7_init_44 16 rfl rfl)
theorem dX7_init_1069 : decode cX7_init 1069 = .ok (.aload_n 0, 1) := dk_42 (dk_at dksX7_init_44 19 rfl rfl)
theorem dX7_init_1070 : decode cX7_init 1070 = .ok (.iconst (-1), 1) := dk_2 (dk_at dksX7_init_44 20 rfl rfl)
theorem dX7_init_1071 : decode cX7_init 1071 = .ok (.putfield 130, 3) := dk_181 0 130 (dk_at dksX7_init_44 21 rfl rfl)
theorem dX7_init_1074 : decode cX7_init 1074 = .ok (.aload_n 0, 1) := dk_42 (dk_at dksX7_init_45 0 rfl rfl)
theorem dX7_init_1075 : decode cX7_init 1075 = .ok (.iconst 3, 1) := dk_6 (dk_at dksX7_init_45 1 rfl rfl)
theorem dX7_init_1076 : decode cX7_init 1076 = .ok (.newarray .long, 2) := dk_188_11 (dk_at dksX7_init_45 2 rfl rfl)
theorem dX7_init_1078 : decode cX7_init 1078 = .ok (.putfield 133, 3) := dk_181 0 133 (dk_at dksX7_init_45 4 rfl rfl)
theorem dX7_init_1081 : decode cX7_init 1081 = .ok (.aload_n 0, 1) := dk_42 (dk_at dksX7_init_45 7 rfl rfl)
theorem dX7_init_1082 : decode cX7_init 1082 = .ok (.bipush 100, 2) := dk_16 100 (dk_at dksX7_init_45 8 rfl rfl)
theorem dX7_init_1084 : decode cX7_init 1084 = .ok (.newarray .int, 2) := dk_188_10 (dk_at dksX7_init_45 10 rfl rfl)
theorem dX7_init_1086 : decode cX7_init 1086 = .ok (.putfield 136, 3) := dk_181 0 136 (dk_at dksX7_init_45 12 rfl rfl)
theorem dX7_init_1089 : decode cX7_init 1089 = .ok (.aload_n 0, 1) := dk_42 (dk_at dksX7_init_45 15 rfl rfl)
theorem dX7_init_1090 : decode cX7_init 1090 = .ok (.getfield 28, 3) := dk_180 0 28 (dk_at dksX7_init_45 16 rfl rfl)
theorem dX7_init_1093 : decode cX7_init 1093 = .ok (.sipush 382, 3) := dk_17 1 126 (dk_at dksX7_init_45 19 rfl rfl)
theorem dX7_init_1096 : decode cX7_init 1096 = .ok (.iconst 1, 1) := dk_4 (dk_at dksX7_init_45 22 rfl rfl)
theorem dX7_init_1097 : decode cX7_init 1097 = .ok (.iastore, 1) := dk_79 (dk_at dksX7_init_45 23 rfl rfl)
theorem dX7_init_1098 : decode cX7_init 1098 = .ok (.aload_n 0, 1) := dk_42 (dk_at dksX7_init_46 0 rfl rfl)
theorem dX7_init_1099 : decode cX7_init 1099 = .ok (.getfield 28, 3) := dk_180 0 28 (dk_at dksX7_init_46 1 rfl rfl)
theorem dX7_init_1102 : decode cX7_init 1102 = .ok (.sipush 387, 3) := dk_17 1 131 (dk_at dksX7_init_46 4 rfl rfl)
theorem dX7_init_1105 : decode cX7_init 1105 = .ok (.iconst (-1), 1) := dk_2 (dk_at dksX7_init_46 7 rfl rfl)
theorem dX7_init_1106 : decode cX7_init 1106 = .ok (.iastore, 1) := dk_79 (dk_at dksX7_init_46 8 rfl rfl)
theorem dX7_init_1107 : decode cX7_init 1107 = .ok (.aload_n 0, 1) := dk_42 (dk_at dksX7_init_46 9 rfl rfl)
theorem dX7_init_1108 : decode cX7_init 1108 = .ok (.invokevirtual 139, 3) := dk_182 0 139 (dk_at dksX7_init_46 10 rfl rfl)
theorem dX7_init_1111 : decode cX7_init 1111 = .ok (.return_, 1) := dk_177 (dk_at dksX7_init_46 13 rfl rfl)
abbrev cX7_emptiesSamples : ByteArray := prog_32_method_11_code
def yX7_emptiesSamples : MethodName := ⟨RX7, "emptiesSamples", "()V"⟩
def dkwX7_emptiesSamples_2 : List UInt8 := [180, 0, 31, 27, 9, 80, 132, 1, 1, 167, 255, 240, 177]
abbrev dktX7_emptiesSamples_2 : List UInt8 := dkwX7_emptiesSamples_2 ++ []
def dkwX7_emptiesSamples_1 : List UInt8 := [16, 58, 184, 0, 142, 17, 3, 232, 79, 132, 1, 1, 167, 255, 222, 3, 60, 27, 16, 100, 162, 0, 16, 42]
abbrev dktX7_emptiesSamples_1 : List UInt8 := dkwX7_emptiesSamples_1 ++ dktX7_emptiesSamples_2
def dkwX7_emptiesSamples_0 : List UInt8 := [3, 60, 27, 7, 162, 0, 35, 42, 180, 0, 28, 27, 16, 50, 184, 0, 142, 3, 79, 42, 180, 0, 28, 27]
abbrev dktX7_emptiesSamples_0 : List UInt8 := dkwX7_emptiesSamples_0 ++ dktX7_emptiesSamples_1
theorem dksX7_emptiesSamples_0 : cX7_emptiesSamples.data.toList.drop 0 = dktX7_emptiesSamples_0 := by decide +kernel
theorem dksX7_emptiesSamples_1 : cX7_emptiesSamples.data.toList.drop 24 = dktX7_emptiesSamples_1 := dk_seg dksX7_emptiesSamples_0 24 rfl rfl
theorem dksX7_emptiesSamples_2 : cX7_emptiesSamples.data.toList.drop 48 = dktX7_emptiesSamples_2 := dk_seg dksX7_emptiesSamples_1 24 rfl rfl
theorem dX7_emptiesSamples_0 : decode cX7_emptiesSamples 0 = .ok (.iconst 0, 1) := dk_3 (dk_at dksX7_emptiesSamples_0 0 rfl rfl)
theorem dX7_emptiesSamples_1 : decode cX7_emptiesSamples 1 = .ok (.istore_n 1, 1) := dk_60 (dk_at dksX7_emptiesSamples_0 1 rfl rfl)
theorem dX7_emptiesSamples_2 : decode cX7_emptiesSamples 2 = .ok (.iload_n 1, 1) := dk_27 (dk_at dksX7_emptiesSamples_0 2 rfl rfl)
theorem dX7_emptiesSamples_3 : decode cX7_emptiesSamples 3 = .ok (.iconst 4, 1) := dk_7 (dk_at dksX7_emptiesSamples_0 3 rfl rfl)
theorem dX7_emptiesSamples_4 : decode cX7_emptiesSamples 4 = .ok (.if_icmp .ge 35, 3) := dk_162 0 35 (dk_at dksX7_emptiesSamples_0 4 rfl rfl)
theorem dX7_emptiesSamples_7 : decode cX7_emptiesSamples 7 = .ok (.aload_n 0, 1) := dk_42 (dk_at dksX7_emptiesSamples_0 7 rfl rfl)
theorem dX7_emptiesSamples_8 : decode cX7_emptiesSamples 8 = .ok (.getfield 28, 3) := dk_180 0 28 (dk_at dksX7_emptiesSamples_0 8 rfl rfl)
theorem dX7_emptiesSamples_11 : decode cX7_emptiesSamples 11 = .ok (.iload_n 1, 1) := dk_27 (dk_at dksX7_emptiesSamples_0 11 rfl rfl)
theorem dX7_emptiesSamples_12 : decode cX7_emptiesSamples 12 = .ok (.bipush 50, 2) := dk_16 50 (dk_at dksX7_emptiesSamples_0 12 rfl rfl)
theorem dX7_emptiesSamples_14 : decode cX7_emptiesSamples 14 = .ok (.invokestatic 142, 3) := dk_184 0 142 (dk_at dksX7_emptiesSamples_0 14 rfl rfl)
theorem dX7_emptiesSamples_17 : decode cX7_emptiesSamples 17 = .ok (.iconst 0, 1) := dk_3 (dk_at dksX7_emptiesSamples_0 17 rfl rfl)
theorem dX7_emptiesSamples_18 : decode cX7_emptiesSamples 18 = .ok (.iastore, 1) := dk_79 (dk_at dksX7_emptiesSamples_0 18 rfl rfl)
theorem dX7_emptiesSamples_19 : decode cX7_emptiesSamples 19 = .ok (.aload_n 0, 1) := dk_42 (dk_at dksX7_emptiesSamples_0 19 rfl rfl)
theorem dX7_emptiesSamples_20 : decode cX7_emptiesSamples 20 = .ok (.getfield 28, 3) := dk_180 0 28 (dk_at dksX7_emptiesSamples_0 20 rfl rfl)
theorem dX7_emptiesSamples_23 : decode cX7_emptiesSamples 23 = .ok (.iload_n 1, 1) := dk_27 (dk_at dksX7_emptiesSamples_0 23 rfl rfl)
theorem dX7_emptiesSamples_24 : decode cX7_emptiesSamples 24 = .ok (.bipush 58, 2) := dk_16 58 (dk_at dksX7_emptiesSamples_1 0 rfl rfl)
theorem dX7_emptiesSamples_26 : decode cX7_emptiesSamples 26 = .ok (.invokestatic 142, 3) := dk_184 0 142 (dk_at dksX7_emptiesSamples_1 2 rfl rfl)
theorem dX7_emptiesSamples_29 : decode cX7_emptiesSamples 29 = .ok (.sipush 1000, 3) := dk_17 3 232 (dk_at dksX7_emptiesSamples_1 5 rfl rfl)
theorem dX7_emptiesSamples_32 : decode cX7_emptiesSamples 32 = .ok (.iastore, 1) := dk_79 (dk_at dksX7_emptiesSamples_1 8 rfl rfl)
theorem dX7_emptiesSamples_33 : decode cX7_emptiesSamples 33 = .ok (.iinc 1 1, 3) := dk_132 1 1 (dk_at dksX7_emptiesSamples_1 9 rfl rfl)
theorem dX7_emptiesSamples_36 : decode cX7_emptiesSamples 36 = .ok (.goto (-34), 3) := dk_167 255 222 (dk_at dksX7_emptiesSamples_1 12 rfl rfl)
theorem dX7_emptiesSamples_39 : decode cX7_emptiesSamples 39 = .ok (.iconst 0, 1) := dk_3 (dk_at dksX7_emptiesSamples_1 15 rfl rfl)
theorem dX7_emptiesSamples_40 : decode cX7_emptiesSamples 40 = .ok (.istore_n 1, 1) := dk_60 (dk_at dksX7_emptiesSamples_1 16 rfl rfl)
theorem dX7_emptiesSamples_41 : decode cX7_emptiesSamples 41 = .ok (.iload_n 1, 1) := dk_27 (dk_at dksX7_emptiesSamples_1 17 rfl rfl)
theorem dX7_emptiesSamples_42 : decode cX7_emptiesSamples 42 = .ok (.bipush 100, 2) := dk_16 100 (dk_at dksX7_emptiesSamples_1 18 rfl rfl)
theorem dX7_emptiesSamples_44 : decode cX7_emptiesSamples 44 = .ok (.if_icmp .ge 16, 3) := dk_162 0 16 (dk_at dksX7_emptiesSamples_1 20 rfl rfl)
theorem dX7_emptiesSamples_47 : decode cX7_emptiesSamples 47 = .ok (.aload_n 0, 1) := dk_42 (dk_at dksX7_emptiesSamples_1 23 rfl rfl)
theorem dX7_emptiesSamples_48 : decode cX7_emptiesSamples 48 = .ok (.getfield 31, 3) := dk_180 0 31 (dk_at dksX7_emptiesSamples_2 0 rfl rfl)
theorem dX7_emptiesSamples_51 : decode cX7_emptiesSamples 51 = .ok (.iload_n 1, 1) := dk_27 (dk_at dksX7_emptiesSamples_2 3 rfl rfl)
theorem dX7_emptiesSamples_52 : decode cX7_emptiesSamples 52 = .ok (.lconst 0, 1) := dk_9 (dk_at dksX7_emptiesSamples_2 4 rfl rfl)
theorem dX7_emptiesSamples_53 : decode cX7_emptiesSamples 53 = .ok (.lastore, 1) := dk_80 (dk_at dksX7_emptiesSamples_2 5 rfl rfl)
theorem dX7_emptiesSamples_54 : decode cX7_emptiesSamples 54 = .ok (.iinc 1 1, 3) := dk_132 1 1 (dk_at dksX7_emptiesSamples_2 6 rfl rfl)
theorem dX7_emptiesSamples_57 : decode cX7_emptiesSamples 57 = .ok (.goto (-16), 3) := dk_167 255 240 (dk_at dksX7_emptiesSamples_2 9 rfl rfl)
theorem dX7_emptiesSamples_60 : decode cX7_emptiesSamples 60 = .ok (.return_, 1) := dk_177 (dk_at dksX7_emptiesSamples_2 12 rfl rfl)
abbrev cX7_at : ByteArray := prog_32_method_12_code
def yX7_at : MethodName := ⟨RX7, "at", "(II)I"⟩
def dkwX7_at_0 : List UInt8 := [16, 92, 26, 104, 27, 96, 172]
abbrev dktX7_at_0 : List UInt8 := dkwX7_at_0 ++ []
theorem dksX7_at_0 : cX7_at.data.toList.drop 0 = dktX7_at_0 := by decide +kernel
theorem dX7_at_0 : decode cX7_at 0 = .ok (.bipush 92, 2) := dk_16 92 (dk_at dksX7_at_0 0 rfl rfl)
theorem dX7_at_2 : decode cX7_at 2 = .ok (.iload_n 0, 1) := dk_26 (dk_at dksX7_at_0 2 rfl rfl)
theorem dX7_at_3 : decode cX7_at 3 = .ok (.imul, 1) := dk_104 (dk_at dksX7_at_0 3 rfl rfl)
theorem dX7_at_4 : decode cX7_at 4 = .ok (.iload_n 1, 1) := dk_27 (dk_at dksX7_at_0 4 rfl rfl)
theorem dX7_at_5 : decode cX7_at 5 = .ok (.iadd, 1) := dk_96 (dk_at dksX7_at_0 5 rfl rfl)
theorem dX7_at_6 : decode cX7_at 6 = .ok (.ireturn, 1) := dk_172 (dk_at dksX7_at_0 6 rfl rfl)
abbrev cX7_image : ByteArray := prog_32_method_15_code
def yX7_image : MethodName := ⟨RX7, "image", "(I)I"⟩
def dkwX7_image_3 : List UInt8 := [80, 132, 2, 1, 167, 255, 230, 42, 180, 0, 41, 27, 4, 84, 42, 3, 182, 0, 14, 172]
abbrev dktX7_image_3 : List UInt8 := dkwX7_image_3 ++ []
def dkwX7_image_2 : List UInt8 := [3, 61, 28, 16, 100, 162, 0, 26, 42, 180, 0, 38, 16, 100, 27, 104, 28, 96, 42, 180, 0, 31, 28, 47]
abbrev dktX7_image_2 : List UInt8 := dkwX7_image_2 ++ dktX7_image_3
def dkwX7_image_1 : List UInt8 := [42, 180, 0, 35, 17, 23, 107, 27, 104, 28, 96, 42, 180, 0, 28, 28, 46, 79, 132, 2, 1, 167, 255, 228]
abbrev dktX7_image_1 : List UInt8 := dkwX7_image_1 ++ dktX7_image_2
def dkwX7_image_0 : List UInt8 := [27, 3, 4, 184, 0, 18, 154, 0, 9, 42, 2, 182, 0, 146, 172, 3, 61, 28, 17, 23, 107, 162, 0, 27]
abbrev dktX7_image_0 : List UInt8 := dkwX7_image_0 ++ dktX7_image_1
theorem dksX7_image_0 : cX7_image.data.toList.drop 0 = dktX7_image_0 := by decide +kernel
theorem dksX7_image_1 : cX7_image.data.toList.drop 24 = dktX7_image_1 := dk_seg dksX7_image_0 24 rfl rfl
theorem dksX7_image_2 : cX7_image.data.toList.drop 48 = dktX7_image_2 := dk_seg dksX7_image_1 24 rfl rfl
theorem dksX7_image_3 : cX7_image.data.toList.drop 72 = dktX7_image_3 := dk_seg dksX7_image_2 24 rfl rfl
theorem dX7_image_0 : decode cX7_image 0 = .ok (.iload_n 1, 1) := dk_27 (dk_at dksX7_image_0 0 rfl rfl)
theorem dX7_image_1 : decode cX7_image 1 = .ok (.iconst 0, 1) := dk_3 (dk_at dksX7_image_0 1 rfl rfl)
theorem dX7_image_2 : decode cX7_image 2 = .ok (.iconst 1, 1) := dk_4 (dk_at dksX7_image_0 2 rfl rfl)
theorem dX7_image_3 : decode cX7_image 3 = .ok (.invokestatic 18, 3) := dk_184 0 18 (dk_at dksX7_image_0 3 rfl rfl)
theorem dX7_image_6 : decode cX7_image 6 = .ok (.ifCond .ne 9, 3) := dk_154 0 9 (dk_at dksX7_image_0 6 rfl rfl)
theorem dX7_image_9 : decode cX7_image 9 = .ok (.aload_n 0, 1) := dk_42 (dk_at dksX7_image_0 9 rfl rfl)
theorem dX7_image_10 : decode cX7_image 10 = .ok (.iconst (-1), 1) := dk_2 (dk_at dksX7_image_0 10 rfl rfl)
theorem dX7_image_11 : decode cX7_image 11 = .ok (.invokevirtual 146, 3) := dk_182 0 146 (dk_at dksX7_image_0 11 rfl rfl)
theorem dX7_image_14 : decode cX7_image 14 = .ok (.ireturn, 1) := dk_172 (dk_at dksX7_image_0 14 rfl rfl)
theorem dX7_image_15 : decode cX7_image 15 = .ok (.iconst 0, 1) := dk_3 (dk_at dksX7_image_0 15 rfl rfl)
theorem dX7_image_16 : decode cX7_image 16 = .ok (.istore_n 2, 1) := dk_61 (dk_at dksX7_image_0 16 rfl rfl)
theorem dX7_image_17 : decode cX7_image 17 = .ok (.iload_n 2, 1) := dk_28 (dk_at dksX7_image_0 17 rfl rfl)
theorem dX7_image_18 : decode cX7_image 18 = .ok (.sipush 5995, 3) := dk_17 23 107 (dk_at dksX7_image_0 18 rfl rfl)
theorem dX7_image_21 : decode cX7_image 21 = .ok (.if_icmp .ge 27, 3) := dk_162 0 27 (dk_at dksX7_image_0 21 rfl rfl)
theorem dX7_image_24 : decode cX7_image 24 = .ok (.aload_n 0, 1) := dk_42 (dk_at dksX7_image_1 0 rfl rfl)
theorem dX7_image_25 : decode cX7_image 25 = .ok (.getfield 35, 3) := dk_180 0 35 (dk_at dksX7_image_1 1 rfl rfl)
theorem dX7_image_28 : decode cX7_image 28 = .ok (.sipush 5995, 3) := dk_17 23 107 (dk_at dksX7_image_1 4 rfl rfl)
theorem dX7_image_31 : decode cX7_image 31 = .ok (.iload_n 1, 1) := dk_27 (dk_at dksX7_image_1 7 rfl rfl)
theorem dX7_image_32 : decode cX7_image 32 = .ok (.imul, 1) := dk_104 (dk_at dksX7_image_1 8 rfl rfl)
theorem dX7_image_33 : decode cX7_image 33 = .ok (.iload_n 2, 1) := dk_28 (dk_at dksX7_image_1 9 rfl rfl)
theorem dX7_image_34 : decode cX7_image 34 = .ok (.iadd, 1) := dk_96 (dk_at dksX7_image_1 10 rfl rfl)
theorem dX7_image_35 : decode cX7_image 35 = .ok (.aload_n 0, 1) := dk_42 (dk_at dksX7_image_1 11 rfl rfl)
theorem dX7_image_36 : decode cX7_image 36 = .ok (.getfield 28, 3) := dk_180 0 28 (dk_at dksX7_image_1 12 rfl rfl)
theorem dX7_image_39 : decode cX7_image 39 = .ok (.iload_n 2, 1) := dk_28 (dk_at dksX7_image_1 15 rfl rfl)
theorem dX7_image_40 : decode cX7_image 40 = .ok (.iaload, 1) := dk_46 (dk_at dksX7_image_1 16 rfl rfl)
theorem dX7_image_41 : decode cX7_image 41 = .ok (.iastore, 1) := dk_79 (dk_at dksX7_image_1 17 rfl rfl)
theorem dX7_image_42 : decode cX7_image 42 = .ok (.iinc 2 1, 3) := dk_132 2 1 (dk_at dksX7_image_1 18 rfl rfl)
theorem dX7_image_45 : decode cX7_image 45 = .ok (.goto (-28), 3) := dk_167 255 228 (dk_at dksX7_image_1 21 rfl rfl)
theorem dX7_image_48 : decode cX7_image 48 = .ok (.iconst 0, 1) := dk_3 (dk_at dksX7_image_2 0 rfl rfl)
theorem dX7_image_49 : decode cX7_image 49 = .ok (.istore_n 2, 1) := dk_61 (dk_at dksX7_image_2 1 rfl rfl)
theorem dX7_image_50 : decode cX7_image 50 = .ok (.iload_n 2, 1) := dk_28 (dk_at dksX7_image_2 2 rfl rfl)
theorem dX7_image_51 : decode cX7_image 51 = .ok (.bipush 100, 2) := dk_16 100 (dk_at dksX7_image_2 3 rfl rfl)
theorem dX7_image_53 : decode cX7_image 53 = .ok (.if_icmp .ge 26, 3) := dk_162 0 26 (dk_at dksX7_image_2 5 rfl rfl)
theorem dX7_image_56 : decode cX7_image 56 = .ok (.aload_n 0, 1) := dk_42 (dk_at dksX7_image_2 8 rfl rfl)
theorem dX7_image_57 : decode cX7_image 57 = .ok (.getfield 38, 3) := dk_180 0 38 (dk_at dksX7_image_2 9 rfl rfl)
theorem dX7_image_60 : decode cX7_image 60 = .ok (.bipush 100, 2) := dk_16 100 (dk_at dksX7_image_2 12 rfl rfl)
theorem dX7_image_62 : decode cX7_image 62 = .ok (.iload_n 1, 1) := dk_27 (dk_at dksX7_image_2 14 rfl rfl)
theorem dX7_image_63 : decode cX7_image 63 = .ok (.imul, 1) := dk_104 (dk_at dksX7_image_2 15 rfl rfl)
theorem dX7_image_64 : decode cX7_image 64 = .ok (.iload_n 2, 1) := dk_28 (dk_at dksX7_image_2 16 rfl rfl)
theorem dX7_image_65 : decode cX7_image 65 = .ok (.iadd, 1) := dk_96 (dk_at dksX7_image_2 17 rfl rfl)
theorem dX7_image_66 : decode cX7_image 66 = .ok (.aload_n 0, 1) := dk_42 (dk_at dksX7_image_2 18 rfl rfl)
theorem dX7_image_67 : decode cX7_image 67 = .ok (.getfield 31, 3) := dk_180 0 31 (dk_at dksX7_image_2 19 rfl rfl)
theorem dX7_image_70 : decode cX7_image 70 = .ok (.iload_n 2, 1) := dk_28 (dk_at dksX7_image_2 22 rfl rfl)
theorem dX7_image_71 : decode cX7_image 71 = .ok (.laload, 1) := dk_47 (dk_at dksX7_image_2 23 rfl rfl)
theorem dX7_image_72 : decode cX7_image 72 = .ok (.lastore, 1) := dk_80 (dk_at dksX7_image_3 0 rfl rfl)
theorem dX7_image_73 : decode cX7_image 73 = .ok (.iinc 2 1, 3) := dk_132 2 1 (dk_at dksX7_image_3 1 rfl rfl)
theorem dX7_image_76 : decode cX7_image 76 = .ok (.goto (-26), 3) := dk_167 255 230 (dk_at dksX7_image_3 4 rfl rfl)
theorem dX7_image_79 : decode cX7_image 79 = .ok (.aload_n 0, 1) := dk_42 (dk_at dksX7_image_3 7 rfl rfl)
theorem dX7_image_80 : decode cX7_image 80 = .ok (.getfield 41, 3) := dk_180 0 41 (dk_at dksX7_image_3 8 rfl rfl)
theorem dX7_image_83 : decode cX7_image 83 = .ok (.iload_n 1, 1) := dk_27 (dk_at dksX7_image_3 11 rfl rfl)
theorem dX7_image_84 : decode cX7_image 84 = .ok (.iconst 1, 1) := dk_4 (dk_at dksX7_image_3 12 rfl rfl)
theorem dX7_image_85 : decode cX7_image 85 = .ok (.bastore, 1) := dk_84 (dk_at dksX7_image_3 13 rfl rfl)
theorem dX7_image_86 : decode cX7_image 86 = .ok (.aload_n 0, 1) := dk_42 (dk_at dksX7_image_3 14 rfl rfl)
theorem dX7_image_87 : decode cX7_image 87 = .ok (.iconst 0, 1) := dk_3 (dk_at dksX7_image_3 15 rfl rfl)
theorem dX7_image_88 : decode cX7_image 88 = .ok (.invokevirtual 14, 3) := dk_182 0 14 (dk_at dksX7_image_3 16 rfl rfl)
theorem dX7_image_91 : decode cX7_image 91 = .ok (.ireturn, 1) := dk_172 (dk_at dksX7_image_3 19 rfl rfl)
abbrev cX7_lies : ByteArray := prog_32_method_1_code
def yX7_lies : MethodName := ⟨RX7, "lies", "(III)Z"⟩
def dkwX7_lies_0 : List UInt8 := [26, 27, 161, 0, 12, 26, 28, 163, 0, 7, 4, 167, 0, 4, 3, 172]
abbrev dktX7_lies_0 : List UInt8 := dkwX7_lies_0 ++ []
theorem dksX7_lies_0 : cX7_lies.data.toList.drop 0 = dktX7_lies_0 := by decide +kernel
theorem dX7_lies_0 : decode cX7_lies 0 = .ok (.iload_n 0, 1) := dk_26 (dk_at dksX7_lies_0 0 rfl rfl)
theorem dX7_lies_1 : decode cX7_lies 1 = .ok (.iload_n 1, 1) := dk_27 (dk_at dksX7_lies_0 1 rfl rfl)
theorem dX7_lies_2 : decode cX7_lies 2 = .ok (.if_icmp .lt 12, 3) := dk_161 0 12 (dk_at dksX7_lies_0 2 rfl rfl)
theorem dX7_lies_5 : decode cX7_lies 5 = .ok (.iload_n 0, 1) := dk_26 (dk_at dksX7_lies_0 5 rfl rfl)
theorem dX7_lies_6 : decode cX7_lies 6 = .ok (.iload_n 2, 1) := dk_28 (dk_at dksX7_lies_0 6 rfl rfl)
theorem dX7_lies_7 : decode cX7_lies 7 = .ok (.if_icmp .gt 7, 3) := dk_163 0 7 (dk_at dksX7_lies_0 7 rfl rfl)
theorem dX7_lies_10 : decode cX7_lies 10 = .ok (.iconst 1, 1) := dk_4 (dk_at dksX7_lies_0 10 rfl rfl)
theorem dX7_lies_11 : decode cX7_lies 11 = .ok (.goto 4, 3) := dk_167 0 4 (dk_at dksX7_lies_0 11 rfl rfl)
theorem dX7_lies_14 : decode cX7_lies 14 = .ok (.iconst 0, 1) := dk_3 (dk_at dksX7_lies_0 14 rfl rfl)
theorem dX7_lies_15 : decode cX7_lies 15 = .ok (.ireturn, 1) := dk_172 (dk_at dksX7_lies_0 15 rfl rfl)
abbrev cX7_refuses : ByteArray := prog_32_method_3_code
def yX7_refuses : MethodName := ⟨RX7, "refuses", "(I)I"⟩
def dkwX7_refuses_0 : List UInt8 := [42, 27, 181, 0, 3, 42, 180, 0, 7, 27, 116, 92, 46, 4, 96, 79, 27, 172]
abbrev dktX7_refuses_0 : List UInt8 := dkwX7_refuses_0 ++ []
theorem dksX7_refuses_0 : cX7_refuses.data.toList.drop 0 = dktX7_refuses_0 := by decide +kernel
theorem dX7_refuses_0 : decode cX7_refuses 0 = .ok (.aload_n 0, 1) := dk_42 (dk_at dksX7_refuses_0 0 rfl rfl)
theorem dX7_refuses_1 : decode cX7_refuses 1 = .ok (.iload_n 1, 1) := dk_27 (dk_at dksX7_refuses_0 1 rfl rfl)
theorem dX7_refuses_2 : decode cX7_refuses 2 = .ok (.putfield 3, 3) := dk_181 0 3 (dk_at dksX7_refuses_0 2 rfl rfl)
theorem dX7_refuses_5 : decode cX7_refuses 5 = .ok (.aload_n 0, 1) := dk_42 (dk_at dksX7_refuses_0 5 rfl rfl)
theorem dX7_refuses_6 : decode cX7_refuses 6 = .ok (.getfield 7, 3) := dk_180 0 7 (dk_at dksX7_refuses_0 6 rfl rfl)
theorem dX7_refuses_9 : decode cX7_refuses 9 = .ok (.iload_n 1, 1) := dk_27 (dk_at dksX7_refuses_0 9 rfl rfl)
theorem dX7_refuses_10 : decode cX7_refuses 10 = .ok (.ineg, 1) := dk_116 (dk_at dksX7_refuses_0 10 rfl rfl)
theorem dX7_refuses_11 : decode cX7_refuses 11 = .ok (.dup2, 1) := dk_92 (dk_at dksX7_refuses_0 11 rfl rfl)
theorem dX7_refuses_12 : decode cX7_refuses 12 = .ok (.iaload, 1) := dk_46 (dk_at dksX7_refuses_0 12 rfl rfl)
theorem dX7_refuses_13 : decode cX7_refuses 13 = .ok (.iconst 1, 1) := dk_4 (dk_at dksX7_refuses_0 13 rfl rfl)
theorem dX7_refuses_14 : decode cX7_refuses 14 = .ok (.iadd, 1) := dk_96 (dk_at dksX7_refuses_0 14 rfl rfl)
theorem dX7_refuses_15 : decode cX7_refuses 15 = .ok (.iastore, 1) := dk_79 (dk_at dksX7_refuses_0 15 rfl rfl)
theorem dX7_refuses_16 : decode cX7_refuses 16 = .ok (.iload_n 1, 1) := dk_27 (dk_at dksX7_refuses_0 16 rfl rfl)
theorem dX7_refuses_17 : decode cX7_refuses 17 = .ok (.ireturn, 1) := dk_172 (dk_at dksX7_refuses_0 17 rfl rfl)
abbrev cX7_good : ByteArray := prog_32_method_4_code
def yX7_good : MethodName := ⟨RX7, "good", "(I)I"⟩
def dkwX7_good_0 : List UInt8 := [42, 3, 181, 0, 3, 27, 172]
abbrev dktX7_good_0 : List UInt8 := dkwX7_good_0 ++ []
theorem dksX7_good_0 : cX7_good.data.toList.drop 0 = dktX7_good_0 := by decide +kernel
theorem dX7_good_0 : decode cX7_good 0 = .ok (.aload_n 0, 1) := dk_42 (dk_at dksX7_good_0 0 rfl rfl)
theorem dX7_good_1 : decode cX7_good 1 = .ok (.iconst 0, 1) := dk_3 (dk_at dksX7_good_0 1 rfl rfl)
theorem dX7_good_2 : decode cX7_good 2 = .ok (.putfield 3, 3) := dk_181 0 3 (dk_at dksX7_good_0 2 rfl rfl)
theorem dX7_good_5 : decode cX7_good 5 = .ok (.iload_n 1, 1) := dk_27 (dk_at dksX7_good_0 5 rfl rfl)
theorem dX7_good_6 : decode cX7_good 6 = .ok (.ireturn, 1) := dk_172 (dk_at dksX7_good_0 6 rfl rfl)
abbrev cX7_back : ByteArray := prog_32_method_16_code
def yX7_back : MethodName := ⟨RX7, "back", "(I)I"⟩
def dkwX7_back_4 : List UInt8 := [167, 255, 230, 42, 3, 182, 0, 149, 172]
abbrev dktX7_back_4 : List UInt8 := dkwX7_back_4 ++ []
def dkwX7_back_3 : List UInt8 := [162, 0, 26, 42, 180, 0, 31, 28, 42, 180, 0, 38, 16, 100, 27, 104, 28, 96, 47, 80, 132, 2, 1]
abbrev dktX7_back_3 : List UInt8 := dkwX7_back_3 ++ dktX7_back_4
def dkwX7_back_2 : List UInt8 := [180, 0, 35, 17, 23, 107, 27, 104, 28, 96, 46, 79, 132, 2, 1, 167, 255, 228, 3, 61, 28, 16, 100]
abbrev dktX7_back_2 : List UInt8 := dkwX7_back_2 ++ dktX7_back_3
def dkwX7_back_1 : List UInt8 := [42, 16, 254, 182, 0, 146, 172, 3, 61, 28, 17, 23, 107, 162, 0, 27, 42, 180, 0, 28, 28, 42]
abbrev dktX7_back_1 : List UInt8 := dkwX7_back_1 ++ dktX7_back_2
def dkwX7_back_0 : List UInt8 := [27, 3, 4, 184, 0, 18, 154, 0, 9, 42, 2, 182, 0, 146, 172, 42, 180, 0, 41, 27, 51, 154, 0, 10]
abbrev dktX7_back_0 : List UInt8 := dkwX7_back_0 ++ dktX7_back_1
theorem dksX7_back_0 : cX7_back.data.toList.drop 0 = dktX7_back_0 := by decide +kernel
theorem dksX7_back_1 : cX7_back.data.toList.drop 24 = dktX7_back_1 := dk_seg dksX7_back_0 24 rfl rfl
theorem dksX7_back_2 : cX7_back.data.toList.drop 46 = dktX7_back_2 := dk_seg dksX7_back_1 22 rfl rfl
theorem dksX7_back_3 : cX7_back.data.toList.drop 69 = dktX7_back_3 := dk_seg dksX7_back_2 23 rfl rfl
theorem dksX7_back_4 : cX7_back.data.toList.drop 92 = dktX7_back_4 := dk_seg dksX7_back_3 23 rfl rfl
theorem dX7_back_0 : decode cX7_back 0 = .ok (.iload_n 1, 1) := dk_27 (dk_at dksX7_back_0 0 rfl rfl)
theorem dX7_back_1 : decode cX7_back 1 = .ok (.iconst 0, 1) := dk_3 (dk_at dksX7_back_0 1 rfl rfl)
theorem dX7_back_2 : decode cX7_back 2 = .ok (.iconst 1, 1) := dk_4 (dk_at dksX7_back_0 2 rfl rfl)
theorem dX7_back_3 : decode cX7_back 3 = .ok (.invokestatic 18, 3) := dk_184 0 18 (dk_at dksX7_back_0 3 rfl rfl)
theorem dX7_back_6 : decode cX7_back 6 = .ok (.ifCond .ne 9, 3) := dk_154 0 9 (dk_at dksX7_back_0 6 rfl rfl)
theorem dX7_back_9 : decode cX7_back 9 = .ok (.aload_n 0, 1) := dk_42 (dk_at dksX7_back_0 9 rfl rfl)
theorem dX7_back_10 : decode cX7_back 10 = .ok (.iconst (-1), 1) := dk_2 (dk_at dksX7_back_0 10 rfl rfl)
theorem dX7_back_11 : decode cX7_back 11 = .ok (.invokevirtual 146, 3) := dk_182 0 146 (dk_at dksX7_back_0 11 rfl rfl)
theorem dX7_back_14 : decode cX7_back 14 = .ok (.ireturn, 1) := dk_172 (dk_at dksX7_back_0 14 rfl rfl)
theorem dX7_back_15 : decode cX7_back 15 = .ok (.aload_n 0, 1) := dk_42 (dk_at dksX7_back_0 15 rfl rfl)
theorem dX7_back_16 : decode cX7_back 16 = .ok (.getfield 41, 3) := dk_180 0 41 (dk_at dksX7_back_0 16 rfl rfl)
theorem dX7_back_19 : decode cX7_back 19 = .ok (.iload_n 1, 1) := dk_27 (dk_at dksX7_back_0 19 rfl rfl)
theorem dX7_back_20 : decode cX7_back 20 = .ok (.baload, 1) := dk_51 (dk_at dksX7_back_0 20 rfl rfl)
theorem dX7_back_21 : decode cX7_back 21 = .ok (.ifCond .ne 10, 3) := dk_154 0 10 (dk_at dksX7_back_0 21 rfl rfl)
theorem dX7_back_24 : decode cX7_back 24 = .ok (.aload_n 0, 1) := dk_42 (dk_at dksX7_back_1 0 rfl rfl)
theorem dX7_back_25 : decode cX7_back 25 = .ok (.bipush (-2), 2) := dk_16 254 (dk_at dksX7_back_1 1 rfl rfl)
theorem dX7_back_27 : decode cX7_back 27 = .ok (.invokevirtual 146, 3) := dk_182 0 146 (dk_at dksX7_back_1 3 rfl rfl)
theorem dX7_back_30 : decode cX7_back 30 = .ok (.ireturn, 1) := dk_172 (dk_at dksX7_back_1 6 rfl rfl)
theorem dX7_back_31 : decode cX7_back 31 = .ok (.iconst 0, 1) := dk_3 (dk_at dksX7_back_1 7 rfl rfl)
theorem dX7_back_32 : decode cX7_back 32 = .ok (.istore_n 2, 1) := dk_61 (dk_at dksX7_back_1 8 rfl rfl)
theorem dX7_back_33 : decode cX7_back 33 = .ok (.iload_n 2, 1) := dk_28 (dk_at dksX7_back_1 9 rfl rfl)
theorem dX7_back_34 : decode cX7_back 34 = .ok (.sipush 5995, 3) := dk_17 23 107 (dk_at dksX7_back_1 10 rfl rfl)
theorem dX7_back_37 : decode cX7_back 37 = .ok (.if_icmp .ge 27, 3) := dk_162 0 27 (dk_at dksX7_back_1 13 rfl rfl)
theorem dX7_back_40 : decode cX7_back 40 = .ok (.aload_n 0, 1) := dk_42 (dk_at dksX7_back_1 16 rfl rfl)
theorem dX7_back_41 : decode cX7_back 41 = .ok (.getfield 28, 3) := dk_180 0 28 (dk_at dksX7_back_1 17 rfl rfl)
theorem dX7_back_44 : decode cX7_back 44 = .ok (.iload_n 2, 1) := dk_28 (dk_at dksX7_back_1 20 rfl rfl)
theorem dX7_back_45 : decode cX7_back 45 = .ok (.aload_n 0, 1) := dk_42 (dk_at dksX7_back_1 21 rfl rfl)
theorem dX7_back_46 : decode cX7_back 46 = .ok (.getfield 35, 3) := dk_180 0 35 (dk_at dksX7_back_2 0 rfl rfl)
theorem dX7_back_49 : decode cX7_back 49 = .ok (.sipush 5995, 3) := dk_17 23 107 (dk_at dksX7_back_2 3 rfl rfl)
theorem dX7_back_52 : decode cX7_back 52 = .ok (.iload_n 1, 1) := dk_27 (dk_at dksX7_back_2 6 rfl rfl)
theorem dX7_back_53 : decode cX7_back 53 = .ok (.imul, 1) := dk_104 (dk_at dksX7_back_2 7 rfl rfl)
theorem dX7_back_54 : decode cX7_back 54 = .ok (.iload_n 2, 1) := dk_28 (dk_at dksX7_back_2 8 rfl rfl)
theorem dX7_back_55 : decode cX7_back 55 = .ok (.iadd, 1) := dk_96 (dk_at dksX7_back_2 9 rfl rfl)
theorem dX7_back_56 : decode cX7_back 56 = .ok (.iaload, 1) := dk_46 (dk_at dksX7_back_2 10 rfl rfl)
theorem dX7_back_57 : decode cX7_back 57 = .ok (.iastore, 1) := dk_79 (dk_at dksX7_back_2 11 rfl rfl)
theorem dX7_back_58 : decode cX7_back 58 = .ok (.iinc 2 1, 3) := dk_132 2 1 (dk_at dksX7_back_2 12 rfl rfl)
theorem dX7_back_61 : decode cX7_back 61 = .ok (.goto (-28), 3) := dk_167 255 228 (dk_at dksX7_back_2 15 rfl rfl)
theorem dX7_back_64 : decode cX7_back 64 = .ok (.iconst 0, 1) := dk_3 (dk_at dksX7_back_2 18 rfl rfl)
theorem dX7_back_65 : decode cX7_back 65 = .ok (.istore_n 2, 1) := dk_61 (dk_at dksX7_back_2 19 rfl rfl)
theorem dX7_back_66 : decode cX7_back 66 = .ok (.iload_n 2, 1) := dk_28 (dk_at dksX7_back_2 20 rfl rfl)
theorem dX7_back_67 : decode cX7_back 67 = .ok (.bipush 100, 2) := dk_16 100 (dk_at dksX7_back_2 21 rfl rfl)
theorem dX7_back_69 : decode cX7_back 69 = .ok (.if_icmp .ge 26, 3) := dk_162 0 26 (dk_at dksX7_back_3 0 rfl rfl)
theorem dX7_back_72 : decode cX7_back 72 = .ok (.aload_n 0, 1) := dk_42 (dk_at dksX7_back_3 3 rfl rfl)
theorem dX7_back_73 : decode cX7_back 73 = .ok (.getfield 31, 3) := dk_180 0 31 (dk_at dksX7_back_3 4 rfl rfl)
theorem dX7_back_76 : decode cX7_back 76 = .ok (.iload_n 2, 1) := dk_28 (dk_at dksX7_back_3 7 rfl rfl)
theorem dX7_back_77 : decode cX7_back 77 = .ok (.aload_n 0, 1) := dk_42 (dk_at dksX7_back_3 8 rfl rfl)
theorem dX7_back_78 : decode cX7_back 78 = .ok (.getfield 38, 3) := dk_180 0 38 (dk_at dksX7_back_3 9 rfl rfl)
theorem dX7_back_81 : decode cX7_back 81 = .ok (.bipush 100, 2) := dk_16 100 (dk_at dksX7_back_3 12 rfl rfl)
theorem dX7_back_83 : decode cX7_back 83 = .ok (.iload_n 1, 1) := dk_27 (dk_at dksX7_back_3 14 rfl rfl)
theorem dX7_back_84 : decode cX7_back 84 = .ok (.imul, 1) := dk_104 (dk_at dksX7_back_3 15 rfl rfl)
theorem dX7_back_85 : decode cX7_back 85 = .ok (.iload_n 2, 1) := dk_28 (dk_at dksX7_back_3 16 rfl rfl)
theorem dX7_back_86 : decode cX7_back 86 = .ok (.iadd, 1) := dk_96 (dk_at dksX7_back_3 17 rfl rfl)
theorem dX7_back_87 : decode cX7_back 87 = .ok (.laload, 1) := dk_47 (dk_at dksX7_back_3 18 rfl rfl)
theorem dX7_back_88 : decode cX7_back 88 = .ok (.lastore, 1) := dk_80 (dk_at dksX7_back_3 19 rfl rfl)
theorem dX7_back_89 : decode cX7_back 89 = .ok (.iinc 2 1, 3) := dk_132 2 1 (dk_at dksX7_back_3 20 rfl rfl)
theorem dX7_back_92 : decode cX7_back 92 = .ok (.goto (-26), 3) := dk_167 255 230 (dk_at dksX7_back_4 0 rfl rfl)
theorem dX7_back_95 : decode cX7_back 95 = .ok (.aload_n 0, 1) := dk_42 (dk_at dksX7_back_4 3 rfl rfl)
theorem dX7_back_96 : decode cX7_back 96 = .ok (.iconst 0, 1) := dk_3 (dk_at dksX7_back_4 4 rfl rfl)
theorem dX7_back_97 : decode cX7_back 97 = .ok (.invokevirtual 149, 3) := dk_182 0 149 (dk_at dksX7_back_4 5 rfl rfl)
theorem dX7_back_100 : decode cX7_back 100 = .ok (.ireturn, 1) := dk_172 (dk_at dksX7_back_4 8 rfl rfl)
abbrev cX7_settled : ByteArray := prog_32_method_5_code
def yX7_settled : MethodName := ⟨RX7, "settled", "(I)I"⟩
def dkwX7_settled_0 : List UInt8 := [42, 3, 181, 0, 11, 42, 27, 182, 0, 14, 172]
abbrev dktX7_settled_0 : List UInt8 := dkwX7_settled_0 ++ []
theorem dksX7_settled_0 : cX7_settled.data.toList.drop 0 = dktX7_settled_0 := by decide +kernel
theorem dX7_settled_0 : decode cX7_settled 0 = .ok (.aload_n 0, 1) := dk_42 (dk_at dksX7_settled_0 0 rfl rfl)
theorem dX7_settled_1 : decode cX7_settled 1 = .ok (.iconst 0, 1) := dk_3 (dk_at dksX7_settled_0 1 rfl rfl)
theorem dX7_settled_2 : decode cX7_settled 2 = .ok (.putfield 11, 3) := dk_181 0 11 (dk_at dksX7_settled_0 2 rfl rfl)
theorem dX7_settled_5 : decode cX7_settled 5 = .ok (.aload_n 0, 1) := dk_42 (dk_at dksX7_settled_0 5 rfl rfl)
theorem dX7_settled_6 : decode cX7_settled 6 = .ok (.iload_n 1, 1) := dk_27 (dk_at dksX7_settled_0 6 rfl rfl)
theorem dX7_settled_7 : decode cX7_settled 7 = .ok (.invokevirtual 14, 3) := dk_182 0 14 (dk_at dksX7_settled_0 7 rfl rfl)
theorem dX7_settled_10 : decode cX7_settled 10 = .ok (.ireturn, 1) := dk_172 (dk_at dksX7_settled_0 10 rfl rfl)
abbrev cX7_of : ByteArray := prog_32_method_17_code
def yX7_of : MethodName := ⟨RX7, "of", "(II)I"⟩
def dkwX7_of_5 : List UInt8 := [167, 0, 4, 2, 172]
abbrev dktX7_of_5 : List UInt8 := dkwX7_of_5 ++ []
def dkwX7_of_4 : List UInt8 := [7, 16, 28, 184, 0, 18, 153, 0, 21, 42, 180, 0, 28, 27, 16, 25, 28, 96, 7, 100, 184, 0, 142, 46]
abbrev dktX7_of_4 : List UInt8 := dkwX7_of_4 ++ dktX7_of_5
def dkwX7_of_3 : List UInt8 := [180, 0, 28, 27, 16, 58, 184, 0, 142, 46, 172, 42, 180, 0, 28, 27, 16, 59, 184, 0, 142, 46, 172, 28]
abbrev dktX7_of_3 : List UInt8 := dkwX7_of_3 ++ dktX7_of_4
def dkwX7_of_2 : List UInt8 := [42, 180, 0, 28, 27, 3, 184, 0, 142, 46, 172, 42, 180, 0, 28, 27, 16, 50, 184, 0, 142, 46, 172, 42]
abbrev dktX7_of_2 : List UInt8 := dkwX7_of_2 ++ dktX7_of_3
def dkwX7_of_1 : List UInt8 := [170, 0, 0, 0, 0, 77, 0, 0, 0, 0, 0, 0, 0, 3, 0, 0, 0, 30, 0, 0, 0, 41, 0, 0, 0, 53, 0, 0, 0, 65]
abbrev dktX7_of_1 : List UInt8 := dkwX7_of_1 ++ dktX7_of_2
def dkwX7_of_0 : List UInt8 := [27, 184, 0, 152, 154, 0, 5, 2, 172, 28]
abbrev dktX7_of_0 : List UInt8 := dkwX7_of_0 ++ dktX7_of_1
theorem dksX7_of_0 : cX7_of.data.toList.drop 0 = dktX7_of_0 := by decide +kernel
theorem dksX7_of_1 : cX7_of.data.toList.drop 10 = dktX7_of_1 := dk_seg dksX7_of_0 10 rfl rfl
theorem dksX7_of_2 : cX7_of.data.toList.drop 40 = dktX7_of_2 := dk_seg dksX7_of_1 30 rfl rfl
theorem dksX7_of_3 : cX7_of.data.toList.drop 64 = dktX7_of_3 := dk_seg dksX7_of_2 24 rfl rfl
theorem dksX7_of_4 : cX7_of.data.toList.drop 88 = dktX7_of_4 := dk_seg dksX7_of_3 24 rfl rfl
theorem dksX7_of_5 : cX7_of.data.toList.drop 112 = dktX7_of_5 := dk_seg dksX7_of_4 24 rfl rfl
theorem dX7_of_0 : decode cX7_of 0 = .ok (.iload_n 1, 1) := dk_27 (dk_at dksX7_of_0 0 rfl rfl)
theorem dX7_of_1 : decode cX7_of 1 = .ok (.invokestatic 152, 3) := dk_184 0 152 (dk_at dksX7_of_0 1 rfl rfl)
theorem dX7_of_4 : decode cX7_of 4 = .ok (.ifCond .ne 5, 3) := dk_154 0 5 (dk_at dksX7_of_0 4 rfl rfl)
theorem dX7_of_7 : decode cX7_of 7 = .ok (.iconst (-1), 1) := dk_2 (dk_at dksX7_of_0 7 rfl rfl)
theorem dX7_of_8 : decode cX7_of 8 = .ok (.ireturn, 1) := dk_172 (dk_at dksX7_of_0 8 rfl rfl)
theorem dX7_of_9 : decode cX7_of 9 = .ok (.iload_n 2, 1) := dk_28 (dk_at dksX7_of_0 9 rfl rfl)
theorem dX7_of_10 : decode cX7_of 10 = .ok (.tableswitch 77 0 3 #[30, 41, 53, 65], 30) := by decide +kernel
theorem dX7_of_40 : decode cX7_of 40 = .ok (.aload_n 0, 1) := dk_42 (dk_at dksX7_of_2 0 rfl rfl)
theorem dX7_of_41 : decode cX7_of 41 = .ok (.getfield 28, 3) := dk_180 0 28 (dk_at dksX7_of_2 1 rfl rfl)
theorem dX7_of_44 : decode cX7_of 44 = .ok (.iload_n 1, 1) := dk_27 (dk_at dksX7_of_2 4 rfl rfl)
theorem dX7_of_45 : decode cX7_of 45 = .ok (.iconst 0, 1) := dk_3 (dk_at dksX7_of_2 5 rfl rfl)
theorem dX7_of_46 : decode cX7_of 46 = .ok (.invokestatic 142, 3) := dk_184 0 142 (dk_at dksX7_of_2 6 rfl rfl)
theorem dX7_of_49 : decode cX7_of 49 = .ok (.iaload, 1) := dk_46 (dk_at dksX7_of_2 9 rfl rfl)
theorem dX7_of_50 : decode cX7_of 50 = .ok (.ireturn, 1) := dk_172 (dk_at dksX7_of_2 10 rfl rfl)
theorem dX7_of_51 : decode cX7_of 51 = .ok (.aload_n 0, 1) := dk_42 (dk_at dksX7_of_2 11 rfl rfl)
theorem dX7_of_52 : decode cX7_of 52 = .ok (.getfield 28, 3) := dk_180 0 28 (dk_at dksX7_of_2 12 rfl rfl)
theorem dX7_of_55 : decode cX7_of 55 = .ok (.iload_n 1, 1) := dk_27 (dk_at dksX7_of_2 15 rfl rfl)
theorem dX7_of_56 : decode cX7_of 56 = .ok (.bipush 50, 2) := dk_16 50 (dk_at dksX7_of_2 16 rfl rfl)
theorem dX7_of_58 : decode cX7_of 58 = .ok (.invokestatic 142, 3) := dk_184 0 142 (dk_at dksX7_of_2 18 rfl rfl)
theorem dX7_of_61 : decode cX7_of 61 = .ok (.iaload, 1) := dk_46 (dk_at dksX7_of_2 21 rfl rfl)
theorem dX7_of_62 : decode cX7_of 62 = .ok (.ireturn, 1) := dk_172 (dk_at dksX7_of_2 22 rfl rfl)
theorem dX7_of_63 : decode cX7_of 63 = .ok (.aload_n 0, 1) := dk_42 (dk_at dksX7_of_2 23 rfl rfl)
theorem dX7_of_64 : decode cX7_of 64 = .ok (.getfield 28, 3) := dk_180 0 28 (dk_at dksX7_of_3 0 rfl rfl)
theorem dX7_of_67 : decode cX7_of 67 = .ok (.iload_n 1, 1) := dk_27 (dk_at dksX7_of_3 3 rfl rfl)
theorem dX7_of_68 : decode cX7_of 68 = .ok (.bipush 58, 2) := dk_16 58 (dk_at dksX7_of_3 4 rfl rfl)
theorem dX7_of_70 : decode cX7_of 70 = .ok (.invokestatic 142, 3) := dk_184 0 142 (dk_at dksX7_of_3 6 rfl rfl)
theorem dX7_of_73 : decode cX7_of 73 = .ok (.iaload, 1) := dk_46 (dk_at dksX7_of_3 9 rfl rfl)
theorem dX7_of_74 : decode cX7_of 74 = .ok (.ireturn, 1) := dk_172 (dk_at dksX7_of_3 10 rfl rfl)
theorem dX7_of_75 : decode cX7_of 75 = .ok (.aload_n 0, 1) := dk_42 (dk_at dksX7_of_3 11 rfl rfl)
theorem dX7_of_76 : decode cX7_of 76 = .ok (.getfield 28, 3) := dk_180 0 28 (dk_at dksX7_of_3 12 rfl rfl)
theorem dX7_of_79 : decode cX7_of 79 = .ok (.iload_n 1, 1) := dk_27 (dk_at dksX7_of_3 15 rfl rfl)
theorem dX7_of_80 : decode cX7_of 80 = .ok (.bipush 59, 2) := dk_16 59 (dk_at dksX7_of_3 16 rfl rfl)
theorem dX7_of_82 : decode cX7_of 82 = .ok (.invokestatic 142, 3) := dk_184 0 142 (dk_at dksX7_of_3 18 rfl rfl)
theorem dX7_of_85 : decode cX7_of 85 = .ok (.iaload, 1) := dk_46 (dk_at dksX7_of_3 21 rfl rfl)
theorem dX7_of_86 : decode cX7_of 86 = .ok (.ireturn, 1) := dk_172 (dk_at dksX7_of_3 22 rfl rfl)
theorem dX7_of_87 : decode cX7_of 87 = .ok (.iload_n 2, 1) := dk_28 (dk_at dksX7_of_3 23 rfl rfl)
theorem dX7_of_88 : decode cX7_of 88 = .ok (.iconst 4, 1) := dk_7 (dk_at dksX7_of_4 0 rfl rfl)
theorem dX7_of_89 : decode cX7_of 89 = .ok (.bipush 28, 2) := dk_16 28 (dk_at dksX7_of_4 1 rfl rfl)
theorem dX7_of_91 : decode cX7_of 91 = .ok (.invokestatic 18, 3) := dk_184 0 18 (dk_at dksX7_of_4 3 rfl rfl)
theorem dX7_of_94 : decode cX7_of 94 = .ok (.ifCond .eq 21, 3) := dk_153 0 21 (dk_at dksX7_of_4 6 rfl rfl)
theorem dX7_of_97 : decode cX7_of 97 = .ok (.aload_n 0, 1) := dk_42 (dk_at dksX7_of_4 9 rfl rfl)
theorem dX7_of_98 : decode cX7_of 98 = .ok (.getfield 28, 3) := dk_180 0 28 (dk_at dksX7_of_4 10 rfl rfl)
theorem dX7_of_101 : decode cX7_of 101 = .ok (.iload_n 1, 1) := dk_27 (dk_at dksX7_of_4 13 rfl rfl)
theorem dX7_of_102 : decode cX7_of 102 = .ok (.bipush 25, 2) := dk_16 25 (dk_at dksX7_of_4 14 rfl rfl)
theorem dX7_of_104 : decode cX7_of 104 = .ok (.iload_n 2, 1) := dk_28 (dk_at dksX7_of_4 16 rfl rfl)
theorem dX7_of_105 : decode cX7_of 105 = .ok (.iadd, 1) := dk_96 (dk_at dksX7_of_4 17 rfl rfl)
theorem dX7_of_106 : decode cX7_of 106 = .ok (.iconst 4, 1) := dk_7 (dk_at dksX7_of_4 18 rfl rfl)
theorem dX7_of_107 : decode cX7_of 107 = .ok (.isub, 1) := dk_100 (dk_at dksX7_of_4 19 rfl rfl)
theorem dX7_of_108 : decode cX7_of 108 = .ok (.invokestatic 142, 3) := dk_184 0 142 (dk_at dksX7_of_4 20 rfl rfl)
theorem dX7_of_111 : decode cX7_of 111 = .ok (.iaload, 1) := dk_46 (dk_at dksX7_of_4 23 rfl rfl)
theorem dX7_of_112 : decode cX7_of 112 = .ok (.goto 4, 3) := dk_167 0 4 (dk_at dksX7_of_5 0 rfl rfl)
theorem dX7_of_115 : decode cX7_of 115 = .ok (.iconst (-1), 1) := dk_2 (dk_at dksX7_of_5 3 rfl rfl)
theorem dX7_of_116 : decode cX7_of 116 = .ok (.ireturn, 1) := dk_172 (dk_at dksX7_of_5 4 rfl rfl)
abbrev cX7_isTenant : ByteArray := prog_32_method_7_code
def yX7_isTenant : MethodName := ⟨RX7, "isTenant", "(I)Z"⟩
def dkwX7_isTenant_0 : List UInt8 := [26, 3, 6, 184, 0, 18, 172]
abbrev dktX7_isTenant_0 : List UInt8 := dkwX7_isTenant_0 ++ []
theorem dksX7_isTenant_0 : cX7_isTenant.data.toList.drop 0 = dktX7_isTenant_0 := by decide +kernel
theorem dX7_isTenant_0 : decode cX7_isTenant 0 = .ok (.iload_n 0, 1) := dk_26 (dk_at dksX7_isTenant_0 0 rfl rfl)
theorem dX7_isTenant_1 : decode cX7_isTenant 1 = .ok (.iconst 0, 1) := dk_3 (dk_at dksX7_isTenant_0 1 rfl rfl)
theorem dX7_isTenant_2 : decode cX7_isTenant 2 = .ok (.iconst 3, 1) := dk_6 (dk_at dksX7_isTenant_0 2 rfl rfl)
theorem dX7_isTenant_3 : decode cX7_isTenant 3 = .ok (.invokestatic 18, 3) := dk_184 0 18 (dk_at dksX7_isTenant_0 3 rfl rfl)
theorem dX7_isTenant_6 : decode cX7_isTenant 6 = .ok (.ireturn, 1) := dk_172 (dk_at dksX7_isTenant_0 6 rfl rfl)
abbrev cX7_top : ByteArray := prog_32_method_18_code
def yX7_top : MethodName := ⟨RX7, "top", "(II)I"⟩
def dkwX7_top_1 : List UInt8 := [153, 0, 20, 42, 180, 0, 28, 27, 4, 28, 96, 4, 100, 184, 0, 142, 46, 167, 0, 4, 2, 172]
abbrev dktX7_top_1 : List UInt8 := dkwX7_top_1 ++ []
def dkwX7_top_0 : List UInt8 := [27, 184, 0, 152, 153, 0, 38, 28, 4, 42, 180, 0, 28, 27, 3, 184, 0, 142, 46, 184, 0, 18]
abbrev dktX7_top_0 : List UInt8 := dkwX7_top_0 ++ dktX7_top_1
theorem dksX7_top_0 : cX7_top.data.toList.drop 0 = dktX7_top_0 := by decide +kernel
theorem dksX7_top_1 : cX7_top.data.toList.drop 22 = dktX7_top_1 := dk_seg dksX7_top_0 22 rfl rfl
theorem dX7_top_0 : decode cX7_top 0 = .ok (.iload_n 1, 1) := dk_27 (dk_at dksX7_top_0 0 rfl rfl)
theorem dX7_top_1 : decode cX7_top 1 = .ok (.invokestatic 152, 3) := dk_184 0 152 (dk_at dksX7_top_0 1 rfl rfl)
theorem dX7_top_4 : decode cX7_top 4 = .ok (.ifCond .eq 38, 3) := dk_153 0 38 (dk_at dksX7_top_0 4 rfl rfl)
theorem dX7_top_7 : decode cX7_top 7 = .ok (.iload_n 2, 1) := dk_28 (dk_at dksX7_top_0 7 rfl rfl)
theorem dX7_top_8 : decode cX7_top 8 = .ok (.iconst 1, 1) := dk_4 (dk_at dksX7_top_0 8 rfl rfl)
theorem dX7_top_9 : decode cX7_top 9 = .ok (.aload_n 0, 1) := dk_42 (dk_at dksX7_top_0 9 rfl rfl)
theorem dX7_top_10 : decode cX7_top 10 = .ok (.getfield 28, 3) := dk_180 0 28 (dk_at dksX7_top_0 10 rfl rfl)
theorem dX7_top_13 : decode cX7_top 13 = .ok (.iload_n 1, 1) := dk_27 (dk_at dksX7_top_0 13 rfl rfl)
theorem dX7_top_14 : decode cX7_top 14 = .ok (.iconst 0, 1) := dk_3 (dk_at dksX7_top_0 14 rfl rfl)
theorem dX7_top_15 : decode cX7_top 15 = .ok (.invokestatic 142, 3) := dk_184 0 142 (dk_at dksX7_top_0 15 rfl rfl)
theorem dX7_top_18 : decode cX7_top 18 = .ok (.iaload, 1) := dk_46 (dk_at dksX7_top_0 18 rfl rfl)
theorem dX7_top_19 : decode cX7_top 19 = .ok (.invokestatic 18, 3) := dk_184 0 18 (dk_at dksX7_top_0 19 rfl rfl)
theorem dX7_top_22 : decode cX7_top 22 = .ok (.ifCond .eq 20, 3) := dk_153 0 20 (dk_at dksX7_top_1 0 rfl rfl)
theorem dX7_top_25 : decode cX7_top 25 = .ok (.aload_n 0, 1) := dk_42 (dk_at dksX7_top_1 3 rfl rfl)
theorem dX7_top_26 : decode cX7_top 26 = .ok (.getfield 28, 3) := dk_180 0 28 (dk_at dksX7_top_1 4 rfl rfl)
theorem dX7_top_29 : decode cX7_top 29 = .ok (.iload_n 1, 1) := dk_27 (dk_at dksX7_top_1 7 rfl rfl)
theorem dX7_top_30 : decode cX7_top 30 = .ok (.iconst 1, 1) := dk_4 (dk_at dksX7_top_1 8 rfl rfl)
theorem dX7_top_31 : decode cX7_top 31 = .ok (.iload_n 2, 1) := dk_28 (dk_at dksX7_top_1 9 rfl rfl)
theorem dX7_top_32 : decode cX7_top 32 = .ok (.iadd, 1) := dk_96 (dk_at dksX7_top_1 10 rfl rfl)
theorem dX7_top_33 : decode cX7_top 33 = .ok (.iconst 1, 1) := dk_4 (dk_at dksX7_top_1 11 rfl rfl)
theorem dX7_top_34 : decode cX7_top 34 = .ok (.isub, 1) := dk_100 (dk_at dksX7_top_1 12 rfl rfl)
theorem dX7_top_35 : decode cX7_top 35 = .ok (.invokestatic 142, 3) := dk_184 0 142 (dk_at dksX7_top_1 13 rfl rfl)
theorem dX7_top_38 : decode cX7_top 38 = .ok (.iaload, 1) := dk_46 (dk_at dksX7_top_1 16 rfl rfl)
theorem dX7_top_39 : decode cX7_top 39 = .ok (.goto 4, 3) := dk_167 0 4 (dk_at dksX7_top_1 17 rfl rfl)
theorem dX7_top_42 : decode cX7_top 42 = .ok (.iconst (-1), 1) := dk_2 (dk_at dksX7_top_1 20 rfl rfl)
theorem dX7_top_43 : decode cX7_top 43 = .ok (.ireturn, 1) := dk_172 (dk_at dksX7_top_1 21 rfl rfl)
abbrev cX7_key : ByteArray := prog_32_method_21_code
def yX7_key : MethodName := ⟨RX7, "key", "(III)I"⟩
def dkwX7_key_3 : List UInt8 := [27, 28, 182, 0, 166, 172, 42, 27, 28, 182, 0, 169, 153, 0, 7, 4, 167, 0, 4, 3, 172, 2, 172]
abbrev dktX7_key_3 : List UInt8 := dkwX7_key_3 ++ []
def dkwX7_key_2 : List UInt8 := [42, 27, 3, 28, 182, 0, 159, 172, 42, 27, 16, 50, 28, 182, 0, 159, 172, 42, 28, 182, 0, 163, 172, 42]
abbrev dktX7_key_2 : List UInt8 := dkwX7_key_2 ++ dktX7_key_3
def dkwX7_key_1 : List UInt8 := [170, 0, 0, 0, 0, 0, 80, 0, 0, 0, 0, 0, 0, 0, 4, 0, 0, 0, 35, 0, 0, 0, 43, 0, 0, 0, 52, 0, 0, 0, 58, 0, 0, 0, 65]
abbrev dktX7_key_1 : List UInt8 := dkwX7_key_1 ++ dktX7_key_2
def dkwX7_key_0 : List UInt8 := [27, 184, 0, 152, 153, 0, 10, 28, 184, 0, 156, 154, 0, 5, 2, 172, 29]
abbrev dktX7_key_0 : List UInt8 := dkwX7_key_0 ++ dktX7_key_1
theorem dksX7_key_0 : cX7_key.data.toList.drop 0 = dktX7_key_0 := by decide +kernel
theorem dksX7_key_1 : cX7_key.data.toList.drop 17 = dktX7_key_1 := dk_seg dksX7_key_0 17 rfl rfl
theorem dksX7_key_2 : cX7_key.data.toList.drop 52 = dktX7_key_2 := dk_seg dksX7_key_1 35 rfl rfl
theorem dksX7_key_3 : cX7_key.data.toList.drop 76 = dktX7_key_3 := dk_seg dksX7_key_2 24 rfl rfl
theorem dX7_key_0 : decode cX7_key 0 = .ok (.iload_n 1, 1) := dk_27 (dk_at dksX7_key_0 0 rfl rfl)
theorem dX7_key_1 : decode cX7_key 1 = .ok (.invokestatic 152, 3) := dk_184 0 152 (dk_at dksX7_key_0 1 rfl rfl)
theorem dX7_key_4 : decode cX7_key 4 = .ok (.ifCond .eq 10, 3) := dk_153 0 10 (dk_at dksX7_key_0 4 rfl rfl)
theorem dX7_key_7 : decode cX7_key 7 = .ok (.iload_n 2, 1) := dk_28 (dk_at dksX7_key_0 7 rfl rfl)
theorem dX7_key_8 : decode cX7_key 8 = .ok (.invokestatic 156, 3) := dk_184 0 156 (dk_at dksX7_key_0 8 rfl rfl)
theorem dX7_key_11 : decode cX7_key 11 = .ok (.ifCond .ne 5, 3) := dk_154 0 5 (dk_at dksX7_key_0 11 rfl rfl)
theorem dX7_key_14 : decode cX7_key 14 = .ok (.iconst (-1), 1) := dk_2 (dk_at dksX7_key_0 14 rfl rfl)
theorem dX7_key_15 : decode cX7_key 15 = .ok (.ireturn, 1) := dk_172 (dk_at dksX7_key_0 15 rfl rfl)
theorem dX7_key_16 : decode cX7_key 16 = .ok (.iload_n 3, 1) := dk_29 (dk_at dksX7_key_0 16 rfl rfl)
theorem dX7_key_17 : decode cX7_key 17 = .ok (.tableswitch 80 0 4 #[35, 43, 52, 58, 65], 35) := by decide +kernel
theorem dX7_key_52 : decode cX7_key 52 = .ok (.aload_n 0, 1) := dk_42 (dk_at dksX7_key_2 0 rfl rfl)
theorem dX7_key_53 : decode cX7_key 53 = .ok (.iload_n 1, 1) := dk_27 (dk_at dksX7_key_2 1 rfl rfl)
theorem dX7_key_54 : decode cX7_key 54 = .ok (.iconst 0, 1) := dk_3 (dk_at dksX7_key_2 2 rfl rfl)
theorem dX7_key_55 : decode cX7_key 55 = .ok (.iload_n 2, 1) := dk_28 (dk_at dksX7_key_2 3 rfl rfl)
theorem dX7_key_56 : decode cX7_key 56 = .ok (.invokevirtual 159, 3) := dk_182 0 159 (dk_at dksX7_key_2 4 rfl rfl)
theorem dX7_key_59 : decode cX7_key 59 = .ok (.ireturn, 1) := dk_172 (dk_at dksX7_key_2 7 rfl rfl)
theorem dX7_key_60 : decode cX7_key 60 = .ok (.aload_n 0, 1) := dk_42 (dk_at dksX7_key_2 8 rfl rfl)
theorem dX7_key_61 : decode cX7_key 61 = .ok (.iload_n 1, 1) := dk_27 (dk_at dksX7_key_2 9 rfl rfl)
theorem dX7_key_62 : decode cX7_key 62 = .ok (.bipush 50, 2) := dk_16 50 (dk_at dksX7_key_2 10 rfl rfl)
theorem dX7_key_64 : decode cX7_key 64 = .ok (.iload_n 2, 1) := dk_28 (dk_at dksX7_key_2 12 rfl rfl)
theorem dX7_key_65 : decode cX7_key 65 = .ok (.invokevirtual 159, 3) := dk_182 0 159 (dk_at dksX7_key_2 13 rfl rfl)
theorem dX7_key_68 : decode cX7_key 68 = .ok (.ireturn, 1) := dk_172 (dk_at dksX7_key_2 16 rfl rfl)
theorem dX7_key_69 : decode cX7_key 69 = .ok (.aload_n 0, 1) := dk_42 (dk_at dksX7_key_2 17 rfl rfl)
theorem dX7_key_70 : decode cX7_key 70 = .ok (.iload_n 2, 1) := dk_28 (dk_at dksX7_key_2 18 rfl rfl)
theorem dX7_key_71 : decode cX7_key 71 = .ok (.invokevirtual 163, 3) := dk_182 0 163 (dk_at dksX7_key_2 19 rfl rfl)
theorem dX7_key_74 : decode cX7_key 74 = .ok (.ireturn, 1) := dk_172 (dk_at dksX7_key_2 22 rfl rfl)
theorem dX7_key_75 : decode cX7_key 75 = .ok (.aload_n 0, 1) := dk_42 (dk_at dksX7_key_2 23 rfl rfl)
theorem dX7_key_76 : decode cX7_key 76 = .ok (.iload_n 1, 1) := dk_27 (dk_at dksX7_key_3 0 rfl rfl)
theorem dX7_key_77 : decode cX7_key 77 = .ok (.iload_n 2, 1) := dk_28 (dk_at dksX7_key_3 1 rfl rfl)
theorem dX7_key_78 : decode cX7_key 78 = .ok (.invokevirtual 166, 3) := dk_182 0 166 (dk_at dksX7_key_3 2 rfl rfl)
theorem dX7_key_81 : decode cX7_key 81 = .ok (.ireturn, 1) := dk_172 (dk_at dksX7_key_3 5 rfl rfl)
theorem dX7_key_82 : decode cX7_key 82 = .ok (.aload_n 0, 1) := dk_42 (dk_at dksX7_key_3 6 rfl rfl)
theorem dX7_key_83 : decode cX7_key 83 = .ok (.iload_n 1, 1) := dk_27 (dk_at dksX7_key_3 7 rfl rfl)
theorem dX7_key_84 : decode cX7_key 84 = .ok (.iload_n 2, 1) := dk_28 (dk_at dksX7_key_3 8 rfl rfl)
theorem dX7_key_85 : decode cX7_key 85 = .ok (.invokevirtual 169, 3) := dk_182 0 169 (dk_at dksX7_key_3 9 rfl rfl)
theorem dX7_key_88 : decode cX7_key 88 = .ok (.ifCond .eq 7, 3) := dk_153 0 7 (dk_at dksX7_key_3 12 rfl rfl)
theorem dX7_key_91 : decode cX7_key 91 = .ok (.iconst 1, 1) := dk_4 (dk_at dksX7_key_3 15 rfl rfl)
theorem dX7_key_92 : decode cX7_key 92 = .ok (.goto 4, 3) := dk_167 0 4 (dk_at dksX7_key_3 16 rfl rfl)
theorem dX7_key_95 : decode cX7_key 95 = .ok (.iconst 0, 1) := dk_3 (dk_at dksX7_key_3 19 rfl rfl)
theorem dX7_key_96 : decode cX7_key 96 = .ok (.ireturn, 1) := dk_172 (dk_at dksX7_key_3 20 rfl rfl)
theorem dX7_key_97 : decode cX7_key 97 = .ok (.iconst (-1), 1) := dk_2 (dk_at dksX7_key_3 21 rfl rfl)
theorem dX7_key_98 : decode cX7_key 98 = .ok (.ireturn, 1) := dk_172 (dk_at dksX7_key_3 22 rfl rfl)
abbrev cX7_isKey : ByteArray := prog_32_method_8_code
def yX7_isKey : MethodName := ⟨RX7, "isKey", "(I)Z"⟩
def dkwX7_isKey_0 : List UInt8 := [26, 3, 17, 3, 231, 184, 0, 18, 172]
abbrev dktX7_isKey_0 : List UInt8 := dkwX7_isKey_0 ++ []
theorem dksX7_isKey_0 : cX7_isKey.data.toList.drop 0 = dktX7_isKey_0 := by decide +kernel
theorem dX7_isKey_0 : decode cX7_isKey 0 = .ok (.iload_n 0, 1) := dk_26 (dk_at dksX7_isKey_0 0 rfl rfl)
theorem dX7_isKey_1 : decode cX7_isKey 1 = .ok (.iconst 0, 1) := dk_3 (dk_at dksX7_isKey_0 1 rfl rfl)
theorem dX7_isKey_2 : decode cX7_isKey 2 = .ok (.sipush 999, 3) := dk_17 3 231 (dk_at dksX7_isKey_0 2 rfl rfl)
theorem dX7_isKey_5 : decode cX7_isKey 5 = .ok (.invokestatic 18, 3) := dk_184 0 18 (dk_at dksX7_isKey_0 5 rfl rfl)
theorem dX7_isKey_8 : decode cX7_isKey 8 = .ok (.ireturn, 1) := dk_172 (dk_at dksX7_isKey_0 8 rfl rfl)
abbrev cX7_placeIn : ByteArray := prog_32_method_19_code
def yX7_placeIn : MethodName := ⟨RX7, "placeIn", "(III)I"⟩
def dkwX7_placeIn_2 : List UInt8 := [167, 255, 226, 3, 172]
abbrev dktX7_placeIn_2 : List UInt8 := dkwX7_placeIn_2 ++ []
def dkwX7_placeIn_1 : List UInt8 := [180, 0, 28, 27, 28, 21, 5, 96, 184, 0, 142, 46, 29, 160, 0, 6, 21, 5, 172, 132, 5, 1]
abbrev dktX7_placeIn_1 : List UInt8 := dkwX7_placeIn_1 ++ dktX7_placeIn_2
def dkwX7_placeIn_0 : List UInt8 := [42, 180, 0, 28, 27, 28, 184, 0, 142, 46, 54, 4, 4, 54, 5, 21, 5, 21, 4, 163, 0, 29, 42]
abbrev dktX7_placeIn_0 : List UInt8 := dkwX7_placeIn_0 ++ dktX7_placeIn_1
theorem dksX7_placeIn_0 : cX7_placeIn.data.toList.drop 0 = dktX7_placeIn_0 := by decide +kernel
theorem dksX7_placeIn_1 : cX7_placeIn.data.toList.drop 23 = dktX7_placeIn_1 := dk_seg dksX7_placeIn_0 23 rfl rfl
theorem dksX7_placeIn_2 : cX7_placeIn.data.toList.drop 45 = dktX7_placeIn_2 := dk_seg dksX7_placeIn_1 22 rfl rfl
theorem dX7_placeIn_0 : decode cX7_placeIn 0 = .ok (.aload_n 0, 1) := dk_42 (dk_at dksX7_placeIn_0 0 rfl rfl)
theorem dX7_placeIn_1 : decode cX7_placeIn 1 = .ok (.getfield 28, 3) := dk_180 0 28 (dk_at dksX7_placeIn_0 1 rfl rfl)
theorem dX7_placeIn_4 : decode cX7_placeIn 4 = .ok (.iload_n 1, 1) := dk_27 (dk_at dksX7_placeIn_0 4 rfl rfl)
theorem dX7_placeIn_5 : decode cX7_placeIn 5 = .ok (.iload_n 2, 1) := dk_28 (dk_at dksX7_placeIn_0 5 rfl rfl)
theorem dX7_placeIn_6 : decode cX7_placeIn 6 = .ok (.invokestatic 142, 3) := dk_184 0 142 (dk_at dksX7_placeIn_0 6 rfl rfl)
theorem dX7_placeIn_9 : decode cX7_placeIn 9 = .ok (.iaload, 1) := dk_46 (dk_at dksX7_placeIn_0 9 rfl rfl)
theorem dX7_placeIn_10 : decode cX7_placeIn 10 = .ok (.istore 4, 2) := dk_54 4 (dk_at dksX7_placeIn_0 10 rfl rfl)
theorem dX7_placeIn_12 : decode cX7_placeIn 12 = .ok (.iconst 1, 1) := dk_4 (dk_at dksX7_placeIn_0 12 rfl rfl)
theorem dX7_placeIn_13 : decode cX7_placeIn 13 = .ok (.istore 5, 2) := dk_54 5 (dk_at dksX7_placeIn_0 13 rfl rfl)
theorem dX7_placeIn_15 : decode cX7_placeIn 15 = .ok (.iload 5, 2) := dk_21 5 (dk_at dksX7_placeIn_0 15 rfl rfl)
theorem dX7_placeIn_17 : decode cX7_placeIn 17 = .ok (.iload 4, 2) := dk_21 4 (dk_at dksX7_placeIn_0 17 rfl rfl)
theorem dX7_placeIn_19 : decode cX7_placeIn 19 = .ok (.if_icmp .gt 29, 3) := dk_163 0 29 (dk_at dksX7_placeIn_0 19 rfl rfl)
theorem dX7_placeIn_22 : decode cX7_placeIn 22 = .ok (.aload_n 0, 1) := dk_42 (dk_at dksX7_placeIn_0 22 rfl rfl)
theorem dX7_placeIn_23 : decode cX7_placeIn 23 = .ok (.getfield 28, 3) := dk_180 0 28 (dk_at dksX7_placeIn_1 0 rfl rfl)
theorem dX7_placeIn_26 : decode cX7_placeIn 26 = .ok (.iload_n 1, 1) := dk_27 (dk_at dksX7_placeIn_1 3 rfl rfl)
theorem dX7_placeIn_27 : decode cX7_placeIn 27 = .ok (.iload_n 2, 1) := dk_28 (dk_at dksX7_placeIn_1 4 rfl rfl)
theorem dX7_placeIn_28 : decode cX7_placeIn 28 = .ok (.iload 5, 2) := dk_21 5 (dk_at dksX7_placeIn_1 5 rfl rfl)
theorem dX7_placeIn_30 : decode cX7_placeIn 30 = .ok (.iadd, 1) := dk_96 (dk_at dksX7_placeIn_1 7 rfl rfl)
theorem dX7_placeIn_31 : decode cX7_placeIn 31 = .ok (.invokestatic 142, 3) := dk_184 0 142 (dk_at dksX7_placeIn_1 8 rfl rfl)
theorem dX7_placeIn_34 : decode cX7_placeIn 34 = .ok (.iaload, 1) := dk_46 (dk_at dksX7_placeIn_1 11 rfl rfl)
theorem dX7_placeIn_35 : decode cX7_placeIn 35 = .ok (.iload_n 3, 1) := dk_29 (dk_at dksX7_placeIn_1 12 rfl rfl)
theorem dX7_placeIn_36 : decode cX7_placeIn 36 = .ok (.if_icmp .ne 6, 3) := dk_160 0 6 (dk_at dksX7_placeIn_1 13 rfl rfl)
theorem dX7_placeIn_39 : decode cX7_placeIn 39 = .ok (.iload 5, 2) := dk_21 5 (dk_at dksX7_placeIn_1 16 rfl rfl)
theorem dX7_placeIn_41 : decode cX7_placeIn 41 = .ok (.ireturn, 1) := dk_172 (dk_at dksX7_placeIn_1 18 rfl rfl)
theorem dX7_placeIn_42 : decode cX7_placeIn 42 = .ok (.iinc 5 1, 3) := dk_132 5 1 (dk_at dksX7_placeIn_1 19 rfl rfl)
theorem dX7_placeIn_45 : decode cX7_placeIn 45 = .ok (.goto (-30), 3) := dk_167 255 226 (dk_at dksX7_placeIn_2 0 rfl rfl)
theorem dX7_placeIn_48 : decode cX7_placeIn 48 = .ok (.iconst 0, 1) := dk_3 (dk_at dksX7_placeIn_2 3 rfl rfl)
theorem dX7_placeIn_49 : decode cX7_placeIn 49 = .ok (.ireturn, 1) := dk_172 (dk_at dksX7_placeIn_2 4 rfl rfl)
abbrev cX7_hashOf : ByteArray := prog_32_method_20_code
def yX7_hashOf : MethodName := ⟨RX7, "hashOf", "(I)I"⟩
def dkwX7_hashOf_0 : List UInt8 := [17, 2, 105, 27, 104, 42, 180, 0, 28, 17, 1, 128, 46, 96, 17, 3, 232, 112, 172]
abbrev dktX7_hashOf_0 : List UInt8 := dkwX7_hashOf_0 ++ []
theorem dksX7_hashOf_0 : cX7_hashOf.data.toList.drop 0 = dktX7_hashOf_0 := by decide +kernel
theorem dX7_hashOf_0 : decode cX7_hashOf 0 = .ok (.sipush 617, 3) := dk_17 2 105 (dk_at dksX7_hashOf_0 0 rfl rfl)
theorem dX7_hashOf_3 : decode cX7_hashOf 3 = .ok (.iload_n 1, 1) := dk_27 (dk_at dksX7_hashOf_0 3 rfl rfl)
theorem dX7_hashOf_4 : decode cX7_hashOf 4 = .ok (.imul, 1) := dk_104 (dk_at dksX7_hashOf_0 4 rfl rfl)
theorem dX7_hashOf_5 : decode cX7_hashOf 5 = .ok (.aload_n 0, 1) := dk_42 (dk_at dksX7_hashOf_0 5 rfl rfl)
theorem dX7_hashOf_6 : decode cX7_hashOf 6 = .ok (.getfield 28, 3) := dk_180 0 28 (dk_at dksX7_hashOf_0 6 rfl rfl)
theorem dX7_hashOf_9 : decode cX7_hashOf 9 = .ok (.sipush 384, 3) := dk_17 1 128 (dk_at dksX7_hashOf_0 9 rfl rfl)
theorem dX7_hashOf_12 : decode cX7_hashOf 12 = .ok (.iaload, 1) := dk_46 (dk_at dksX7_hashOf_0 12 rfl rfl)
theorem dX7_hashOf_13 : decode cX7_hashOf 13 = .ok (.iadd, 1) := dk_96 (dk_at dksX7_hashOf_0 13 rfl rfl)
theorem dX7_hashOf_14 : decode cX7_hashOf 14 = .ok (.sipush 1000, 3) := dk_17 3 232 (dk_at dksX7_hashOf_0 14 rfl rfl)
theorem dX7_hashOf_17 : decode cX7_hashOf 17 = .ok (.irem, 1) := dk_112 (dk_at dksX7_hashOf_0 17 rfl rfl)
theorem dX7_hashOf_18 : decode cX7_hashOf 18 = .ok (.ireturn, 1) := dk_172 (dk_at dksX7_hashOf_0 18 rfl rfl)
abbrev cX7_costsFor : ByteArray := prog_32_method_71_code
def yX7_costsFor : MethodName := ⟨RX7, "costsFor", "(II)I"⟩
def dkwX7_costsFor_0 : List UInt8 := [42, 27, 28, 182, 1, 94, 42, 4, 4, 182, 1, 97, 172]
abbrev dktX7_costsFor_0 : List UInt8 := dkwX7_costsFor_0 ++ []
theorem dksX7_costsFor_0 : cX7_costsFor.data.toList.drop 0 = dktX7_costsFor_0 := by decide +kernel
theorem dX7_costsFor_0 : decode cX7_costsFor 0 = .ok (.aload_n 0, 1) := dk_42 (dk_at dksX7_costsFor_0 0 rfl rfl)
theorem dX7_costsFor_1 : decode cX7_costsFor 1 = .ok (.iload_n 1, 1) := dk_27 (dk_at dksX7_costsFor_0 1 rfl rfl)
theorem dX7_costsFor_2 : decode cX7_costsFor 2 = .ok (.iload_n 2, 1) := dk_28 (dk_at dksX7_costsFor_0 2 rfl rfl)
theorem dX7_costsFor_3 : decode cX7_costsFor 3 = .ok (.invokevirtual 350, 3) := dk_182 1 94 (dk_at dksX7_costsFor_0 3 rfl rfl)
theorem dX7_costsFor_6 : decode cX7_costsFor 6 = .ok (.aload_n 0, 1) := dk_42 (dk_at dksX7_costsFor_0 6 rfl rfl)
theorem dX7_costsFor_7 : decode cX7_costsFor 7 = .ok (.iconst 1, 1) := dk_4 (dk_at dksX7_costsFor_0 7 rfl rfl)
theorem dX7_costsFor_8 : decode cX7_costsFor 8 = .ok (.iconst 1, 1) := dk_4 (dk_at dksX7_costsFor_0 8 rfl rfl)
theorem dX7_costsFor_9 : decode cX7_costsFor 9 = .ok (.invokevirtual 353, 3) := dk_182 1 97 (dk_at dksX7_costsFor_0 9 rfl rfl)
theorem dX7_costsFor_12 : decode cX7_costsFor 12 = .ok (.ireturn, 1) := dk_172 (dk_at dksX7_costsFor_0 12 rfl rfl)
abbrev cX7_setsAsked : ByteArray := prog_32_method_69_code
def yX7_setsAsked : MethodName := ⟨RX7, "setsAsked", "(II)V"⟩
def dkwX7_setsAsked_4 : List UInt8 := [180, 0, 28, 17, 1, 127, 46, 79, 42, 180, 0, 73, 8, 42, 180, 0, 28, 17, 1, 112, 46, 79, 177]
abbrev dktX7_setsAsked_4 : List UInt8 := dkwX7_setsAsked_4 ++ []
def dkwX7_setsAsked_3 : List UInt8 := [5, 29, 79, 42, 180, 0, 73, 6, 42, 27, 3, 28, 182, 0, 159, 79, 42, 180, 0, 73, 7, 42]
abbrev dktX7_setsAsked_3 : List UInt8 := dkwX7_setsAsked_3 ++ dktX7_setsAsked_4
def dkwX7_setsAsked_2 : List UInt8 := [132, 4, 1, 167, 255, 211, 42, 180, 0, 73, 3, 27, 79, 42, 180, 0, 73, 4, 28, 79, 42, 180, 0, 73]
abbrev dktX7_setsAsked_2 : List UInt8 := dkwX7_setsAsked_2 ++ dktX7_setsAsked_3
def dkwX7_setsAsked_1 : List UInt8 := [180, 0, 28, 27, 16, 59, 21, 4, 96, 184, 0, 142, 46, 28, 160, 0, 7, 4, 167, 0, 4, 3, 96, 62]
abbrev dktX7_setsAsked_1 : List UInt8 := dkwX7_setsAsked_1 ++ dktX7_setsAsked_2
def dkwX7_setsAsked_0 : List UInt8 := [3, 62, 4, 54, 4, 21, 4, 42, 180, 0, 28, 27, 16, 59, 184, 0, 142, 46, 163, 0, 35, 29, 42]
abbrev dktX7_setsAsked_0 : List UInt8 := dkwX7_setsAsked_0 ++ dktX7_setsAsked_1
theorem dksX7_setsAsked_0 : cX7_setsAsked.data.toList.drop 0 = dktX7_setsAsked_0 := by decide +kernel
theorem dksX7_setsAsked_1 : cX7_setsAsked.data.toList.drop 23 = dktX7_setsAsked_1 := dk_seg dksX7_setsAsked_0 23 rfl rfl
theorem dksX7_setsAsked_2 : cX7_setsAsked.data.toList.drop 47 = dktX7_setsAsked_2 := dk_seg dksX7_setsAsked_1 24 rfl rfl
theorem dksX7_setsAsked_3 : cX7_setsAsked.data.toList.drop 71 = dktX7_setsAsked_3 := dk_seg dksX7_setsAsked_2 24 rfl rfl
theorem dksX7_setsAsked_4 : cX7_setsAsked.data.toList.drop 93 = dktX7_setsAsked_4 := dk_seg dksX7_setsAsked_3 22 rfl rfl
theorem dX7_setsAsked_0 : decode cX7_setsAsked 0 = .ok (.iconst 0, 1) := dk_3 (dk_at dksX7_setsAsked_0 0 rfl rfl)
theorem dX7_setsAsked_1 : decode cX7_setsAsked 1 = .ok (.istore_n 3, 1) := dk_62 (dk_at dksX7_setsAsked_0 1 rfl rfl)
theorem dX7_setsAsked_2 : decode cX7_setsAsked 2 = .ok (.iconst 1, 1) := dk_4 (dk_at dksX7_setsAsked_0 2 rfl rfl)
theorem dX7_setsAsked_3 : decode cX7_setsAsked 3 = .ok (.istore 4, 2) := dk_54 4 (dk_at dksX7_setsAsked_0 3 rfl rfl)
theorem dX7_setsAsked_5 : decode cX7_setsAsked 5 = .ok (.iload 4, 2) := dk_21 4 (dk_at dksX7_setsAsked_0 5 rfl rfl)
theorem dX7_setsAsked_7 : decode cX7_setsAsked 7 = .ok (.aload_n 0, 1) := dk_42 (dk_at dksX7_setsAsked_0 7 rfl rfl)
theorem dX7_setsAsked_8 : decode cX7_setsAsked 8 = .ok (.getfield 28, 3) := dk_180 0 28 (dk_at dksX7_setsAsked_0 8 rfl rfl)
theorem dX7_setsAsked_11 : decode cX7_setsAsked 11 = .ok (.iload_n 1, 1) := dk_27 (dk_at dksX7_setsAsked_0 11 rfl rfl)
theorem dX7_setsAsked_12 : decode cX7_setsAsked 12 = .ok (.bipush 59, 2) := dk_16 59 (dk_at dksX7_setsAsked_0 12 rfl rfl)
theorem dX7_setsAsked_14 : decode cX7_setsAsked 14 = .ok (.invokestatic 142, 3) := dk_184 0 142 (dk_at dksX7_setsAsked_0 14 rfl rfl)
theorem dX7_setsAsked_17 : decode cX7_setsAsked 17 = .ok (.iaload, 1) := dk_46 (dk_at dksX7_setsAsked_0 17 rfl rfl)
theorem dX7_setsAsked_18 : decode cX7_setsAsked 18 = .ok (.if_icmp .gt 35, 3) := dk_163 0 35 (dk_at dksX7_setsAsked_0 18 rfl rfl)
theorem dX7_setsAsked_21 : decode cX7_setsAsked 21 = .ok (.iload_n 3, 1) := dk_29 (dk_at dksX7_setsAsked_0 21 rfl rfl)
theorem dX7_setsAsked_22 : decode cX7_setsAsked 22 = .ok (.aload_n 0, 1) := dk_42 (dk_at dksX7_setsAsked_0 22 rfl rfl)
theorem dX7_setsAsked_23 : decode cX7_setsAsked 23 = .ok (.getfield 28, 3) := dk_180 0 28 (dk_at dksX7_setsAsked_1 0 rfl rfl)
theorem dX7_setsAsked_26 : decode cX7_setsAsked 26 = .ok (.iload_n 1, 1) := dk_27 (dk_at dksX7_setsAsked_1 3 rfl rfl)
theorem dX7_setsAsked_27 : decode cX7_setsAsked 27 = .ok (.bipush 59, 2) := dk_16 59 (dk_at dksX7_setsAsked_1 4 rfl rfl)
theorem dX7_setsAsked_29 : decode cX7_setsAsked 29 = .ok (.iload 4, 2) := dk_21 4 (dk_at dksX7_setsAsked_1 6 rfl rfl)
theorem dX7_setsAsked_31 : decode cX7_setsAsked 31 = .ok (.iadd, 1) := dk_96 (dk_at dksX7_setsAsked_1 8 rfl rfl)
theorem dX7_setsAsked_32 : decode cX7_setsAsked 32 = .ok (.invokestatic 142, 3) := dk_184 0 142 (dk_at dksX7_setsAsked_1 9 rfl rfl)
theorem dX7_setsAsked_35 : decode cX7_setsAsked 35 = .ok (.iaload, 1) := dk_46 (dk_at dksX7_setsAsked_1 12 rfl rfl)
theorem dX7_setsAsked_36 : decode cX7_setsAsked 36 = .ok (.iload_n 2, 1) := dk_28 (dk_at dksX7_setsAsked_1 13 rfl rfl)
theorem dX7_setsAsked_37 : decode cX7_setsAsked 37 = .ok (.if_icmp .ne 7, 3) := dk_160 0 7 (dk_at dksX7_setsAsked_1 14 rfl rfl)
theorem dX7_setsAsked_40 : decode cX7_setsAsked 40 = .ok (.iconst 1, 1) := dk_4 (dk_at dksX7_setsAsked_1 17 rfl rfl)
theorem dX7_setsAsked_41 : decode cX7_setsAsked 41 = .ok (.goto 4, 3) := dk_167 0 4 (dk_at dksX7_setsAsked_1 18 rfl rfl)
theorem dX7_setsAsked_44 : decode cX7_setsAsked 44 = .ok (.iconst 0, 1) := dk_3 (dk_at dksX7_setsAsked_1 21 rfl rfl)
theorem dX7_setsAsked_45 : decode cX7_setsAsked 45 = .ok (.iadd, 1) := dk_96 (dk_at dksX7_setsAsked_1 22 rfl rfl)
theorem dX7_setsAsked_46 : decode cX7_setsAsked 46 = .ok (.istore_n 3, 1) := dk_62 (dk_at dksX7_setsAsked_1 23 rfl rfl)
theorem dX7_setsAsked_47 : decode cX7_setsAsked 47 = .ok (.iinc 4 1, 3) := dk_132 4 1 (dk_at dksX7_setsAsked_2 0 rfl rfl)
theorem dX7_setsAsked_50 : decode cX7_setsAsked 50 = .ok (.goto (-45), 3) := dk_167 255 211 (dk_at dksX7_setsAsked_2 3 rfl rfl)
theorem dX7_setsAsked_53 : decode cX7_setsAsked 53 = .ok (.aload_n 0, 1) := dk_42 (dk_at dksX7_setsAsked_2 6 rfl rfl)
theorem dX7_setsAsked_54 : decode cX7_setsAsked 54 = .ok (.getfield 73, 3) := dk_180 0 73 (dk_at dksX7_setsAsked_2 7 rfl rfl)
theorem dX7_setsAsked_57 : decode cX7_setsAsked 57 = .ok (.iconst 0, 1) := dk_3 (dk_at dksX7_setsAsked_2 10 rfl rfl)
theorem dX7_setsAsked_58 : decode cX7_setsAsked 58 = .ok (.iload_n 1, 1) := dk_27 (dk_at dksX7_setsAsked_2 11 rfl rfl)
theorem dX7_setsAsked_59 : decode cX7_setsAsked 59 = .ok (.iastore, 1) := dk_79 (dk_at dksX7_setsAsked_2 12 rfl rfl)
theorem dX7_setsAsked_60 : decode cX7_setsAsked 60 = .ok (.aload_n 0, 1) := dk_42 (dk_at dksX7_setsAsked_2 13 rfl rfl)
theorem dX7_setsAsked_61 : decode cX7_setsAsked 61 = .ok (.getfield 73, 3) := dk_180 0 73 (dk_at dksX7_setsAsked_2 14 rfl rfl)
theorem dX7_setsAsked_64 : decode cX7_setsAsked 64 = .ok (.iconst 1, 1) := dk_4 (dk_at dksX7_setsAsked_2 17 rfl rfl)
theorem dX7_setsAsked_65 : decode cX7_setsAsked 65 = .ok (.iload_n 2, 1) := dk_28 (dk_at dksX7_setsAsked_2 18 rfl rfl)
theorem dX7_setsAsked_66 : decode cX7_setsAsked 66 = .ok (.iastore, 1) := dk_79 (dk_at dksX7_setsAsked_2 19 rfl rfl)
theorem dX7_setsAsked_67 : decode cX7_setsAsked 67 = .ok (.aload_n 0, 1) := dk_42 (dk_at dksX7_setsAsked_2 20 rfl rfl)
theorem dX7_setsAsked_68 : decode cX7_setsAsked 68 = .ok (.getfield 73, 3) := dk_180 0 73 (dk_at dksX7_setsAsked_2 21 rfl rfl)
theorem dX7_setsAsked_71 : decode cX7_setsAsked 71 = .ok (.iconst 2, 1) := dk_5 (dk_at dksX7_setsAsked_3 0 rfl rfl)
theorem dX7_setsAsked_72 : decode cX7_setsAsked 72 = .ok (.iload_n 3, 1) := dk_29 (dk_at dksX7_setsAsked_3 1 rfl rfl)
theorem dX7_setsAsked_73 : decode cX7_setsAsked 73 = .ok (.iastore, 1) := dk_79 (dk_at dksX7_setsAsked_3 2 rfl rfl)
theorem dX7_setsAsked_74 : decode cX7_setsAsked 74 = .ok (.aload_n 0, 1) := dk_42 (dk_at dksX7_setsAsked_3 3 rfl rfl)
theorem dX7_setsAsked_75 : decode cX7_setsAsked 75 = .ok (.getfield 73, 3) := dk_180 0 73 (dk_at dksX7_setsAsked_3 4 rfl rfl)
theorem dX7_setsAsked_78 : decode cX7_setsAsked 78 = .ok (.iconst 3, 1) := dk_6 (dk_at dksX7_setsAsked_3 7 rfl rfl)
theorem dX7_setsAsked_79 : decode cX7_setsAsked 79 = .ok (.aload_n 0, 1) := dk_42 (dk_at dksX7_setsAsked_3 8 rfl rfl)
theorem dX7_setsAsked_80 : decode cX7_setsAsked 80 = .ok (.iload_n 1, 1) := dk_27 (dk_at dksX7_setsAsked_3 9 rfl rfl)
theorem dX7_setsAsked_81 : decode cX7_setsAsked 81 = .ok (.iconst 0, 1) := dk_3 (dk_at dksX7_setsAsked_3 10 rfl rfl)
theorem dX7_setsAsked_82 : decode cX7_setsAsked 82 = .ok (.iload_n 2, 1) := dk_28 (dk_at dksX7_setsAsked_3 11 rfl rfl)
theorem dX7_setsAsked_83 : decode cX7_setsAsked 83 = .ok (.invokevirtual 159, 3) := dk_182 0 159 (dk_at dksX7_setsAsked_3 12 rfl rfl)
theorem dX7_setsAsked_86 : decode cX7_setsAsked 86 = .ok (.iastore, 1) := dk_79 (dk_at dksX7_setsAsked_3 15 rfl rfl)
theorem dX7_setsAsked_87 : decode cX7_setsAsked 87 = .ok (.aload_n 0, 1) := dk_42 (dk_at dksX7_setsAsked_3 16 rfl rfl)
theorem dX7_setsAsked_88 : decode cX7_setsAsked 88 = .ok (.getfield 73, 3) := dk_180 0 73 (dk_at dksX7_setsAsked_3 17 rfl rfl)
theorem dX7_setsAsked_91 : decode cX7_setsAsked 91 = .ok (.iconst 4, 1) := dk_7 (dk_at dksX7_setsAsked_3 20 rfl rfl)
theorem dX7_setsAsked_92 : decode cX7_setsAsked 92 = .ok (.aload_n 0, 1) := dk_42 (dk_at dksX7_setsAsked_3 21 rfl rfl)
theorem dX7_setsAsked_93 : decode cX7_setsAsked 93 = .ok (.getfield 28, 3) := dk_180 0 28 (dk_at dksX7_setsAsked_4 0 rfl rfl)
theorem dX7_setsAsked_96 : decode cX7_setsAsked 96 = .ok (.sipush 383, 3) := dk_17 1 127 (dk_at dksX7_setsAsked_4 3 rfl rfl)
theorem dX7_setsAsked_99 : decode cX7_setsAsked 99 = .ok (.iaload, 1) := dk_46 (dk_at dksX7_setsAsked_4 6 rfl rfl)
theorem dX7_setsAsked_100 : decode cX7_setsAsked 100 = .ok (.iastore, 1) := dk_79 (dk_at dksX7_setsAsked_4 7 rfl rfl)
theorem dX7_setsAsked_101 : decode cX7_setsAsked 101 = .ok (.aload_n 0, 1) := dk_42 (dk_at dksX7_setsAsked_4 8 rfl rfl)
theorem dX7_setsAsked_102 : decode cX7_setsAsked 102 = .ok (.getfield 73, 3) := dk_180 0 73 (dk_at dksX7_setsAsked_4 9 rfl rfl)
theorem dX7_setsAsked_105 : decode cX7_setsAsked 105 = .ok (.iconst 5, 1) := dk_8 (dk_at dksX7_setsAsked_4 12 rfl rfl)
theorem dX7_setsAsked_106 : decode cX7_setsAsked 106 = .ok (.aload_n 0, 1) := dk_42 (dk_at dksX7_setsAsked_4 13 rfl rfl)
theorem dX7_setsAsked_107 : decode cX7_setsAsked 107 = .ok (.getfield 28, 3) := dk_180 0 28 (dk_at dksX7_setsAsked_4 14 rfl rfl)
theorem dX7_setsAsked_110 : decode cX7_setsAsked 110 = .ok (.sipush 368, 3) := dk_17 1 112 (dk_at dksX7_setsAsked_4 17 rfl rfl)
theorem dX7_setsAsked_113 : decode cX7_setsAsked 113 = .ok (.iaload, 1) := dk_46 (dk_at dksX7_setsAsked_4 20 rfl rfl)
theorem dX7_setsAsked_114 : decode cX7_setsAsked 114 = .ok (.iastore, 1) := dk_79 (dk_at dksX7_setsAsked_4 21 rfl rfl)
theorem dX7_setsAsked_115 : decode cX7_setsAsked 115 = .ok (.return_, 1) := dk_177 (dk_at dksX7_setsAsked_4 22 rfl rfl)
abbrev cX7_tells : ByteArray := prog_32_method_70_code
def yX7_tells : MethodName := ⟨RX7, "tells", "(II)I"⟩
def dkwX7_tells_9 : List UInt8 := [96, 181, 1, 38, 167, 255, 107, 33, 136, 172]
abbrev dktX7_tells_9 : List UInt8 := dkwX7_tells_9 ++ []
def dkwX7_tells_8 : List UInt8 := [22, 6, 20, 1, 92, 148, 158, 0, 9, 20, 1, 92, 167, 0, 5, 22, 6, 66, 42, 89, 180, 1, 38, 4]
abbrev dktX7_tells_8 : List UInt8 := dkwX7_tells_8 ++ dktX7_tells_9
def dkwX7_tells_7 : List UInt8 := [42, 180, 1, 48, 154, 0, 37, 21, 8, 154, 0, 32, 22, 6, 9, 148, 156, 0, 7, 9, 167, 0, 20]
abbrev dktX7_tells_7 : List UInt8 := dkwX7_tells_7 ++ dktX7_tells_8
def dkwX7_tells_6 : List UInt8 := [182, 1, 89, 153, 0, 7, 4, 167, 0, 4, 3, 54, 9, 21, 5, 27, 160, 0, 49, 21, 9, 153, 0, 44]
abbrev dktX7_tells_6 : List UInt8 := dkwX7_tells_6 ++ dktX7_tells_7
def dkwX7_tells_5 : List UInt8 := [55, 6, 42, 180, 1, 48, 54, 8, 42, 3, 181, 1, 48, 42, 6, 182, 1, 62, 153, 0, 11, 42, 4]
abbrev dktX7_tells_5 : List UInt8 := dkwX7_tells_5 ++ dktX7_tells_6
def dkwX7_tells_4 : List UInt8 := [180, 1, 38, 4, 96, 181, 1, 38, 21, 5, 5, 160, 0, 7, 10, 167, 0, 8, 42, 4, 182, 1, 65]
abbrev dktX7_tells_4 : List UInt8 := dkwX7_tells_4 ++ dktX7_tells_5
def dkwX7_tells_3 : List UInt8 := [180, 1, 35, 162, 0, 144, 42, 42, 180, 1, 38, 182, 1, 41, 54, 5, 42, 3, 181, 1, 48, 42, 89]
abbrev dktX7_tells_3 : List UInt8 := dkwX7_tells_3 ++ dktX7_tells_4
def dkwX7_tells_2 : List UInt8 := [17, 1, 132, 42, 180, 0, 28, 17, 1, 131, 46, 96, 46, 96, 181, 1, 35, 42, 180, 1, 38, 42]
abbrev dktX7_tells_2 : List UInt8 := dkwX7_tells_2 ++ dktX7_tells_3
def dkwX7_tells_1 : List UInt8 := [17, 1, 144, 42, 180, 0, 28, 17, 1, 131, 46, 104, 181, 1, 38, 42, 42, 180, 1, 38, 42, 180, 0, 28]
abbrev dktX7_tells_1 : List UInt8 := dkwX7_tells_1 ++ dktX7_tells_2
def dkwX7_tells_0 : List UInt8 := [42, 180, 0, 28, 17, 1, 131, 46, 2, 160, 0, 5, 28, 172, 42, 3, 181, 1, 68, 28, 133, 66, 42]
abbrev dktX7_tells_0 : List UInt8 := dkwX7_tells_0 ++ dktX7_tells_1
theorem dksX7_tells_0 : cX7_tells.data.toList.drop 0 = dktX7_tells_0 := by decide +kernel
theorem dksX7_tells_1 : cX7_tells.data.toList.drop 23 = dktX7_tells_1 := dk_seg dksX7_tells_0 23 rfl rfl
theorem dksX7_tells_2 : cX7_tells.data.toList.drop 47 = dktX7_tells_2 := dk_seg dksX7_tells_1 24 rfl rfl
theorem dksX7_tells_3 : cX7_tells.data.toList.drop 69 = dktX7_tells_3 := dk_seg dksX7_tells_2 22 rfl rfl
theorem dksX7_tells_4 : cX7_tells.data.toList.drop 92 = dktX7_tells_4 := dk_seg dksX7_tells_3 23 rfl rfl
theorem dksX7_tells_5 : cX7_tells.data.toList.drop 115 = dktX7_tells_5 := dk_seg dksX7_tells_4 23 rfl rfl
theorem dksX7_tells_6 : cX7_tells.data.toList.drop 138 = dktX7_tells_6 := dk_seg dksX7_tells_5 23 rfl rfl
theorem dksX7_tells_7 : cX7_tells.data.toList.drop 162 = dktX7_tells_7 := dk_seg dksX7_tells_6 24 rfl rfl
theorem dksX7_tells_8 : cX7_tells.data.toList.drop 185 = dktX7_tells_8 := dk_seg dksX7_tells_7 23 rfl rfl
theorem dksX7_tells_9 : cX7_tells.data.toList.drop 209 = dktX7_tells_9 := dk_seg dksX7_tells_8 24 rfl rfl
theorem dX7_tells_0 : decode cX7_tells 0 = .ok (.aload_n 0, 1) := dk_42 (dk_at dksX7_tells_0 0 rfl rfl)
theorem dX7_tells_1 : decode cX7_tells 1 = .ok (.getfield 28, 3) := dk_180 0 28 (dk_at dksX7_tells_0 1 rfl rfl)
theorem dX7_tells_4 : decode cX7_tells 4 = .ok (.sipush 387, 3) := dk_17 1 131 (dk_at dksX7_tells_0 4 rfl rfl)
theorem dX7_tells_7 : decode cX7_tells 7 = .ok (.iaload, 1) := dk_46 (dk_at dksX7_tells_0 7 rfl rfl)
theorem dX7_tells_8 : decode cX7_tells 8 = .ok (.iconst (-1), 1) := dk_2 (dk_at dksX7_tells_0 8 rfl rfl)
theorem dX7_tells_9 : decode cX7_tells 9 = .ok (.if_icmp .ne 5, 3) := dk_160 0 5 (dk_at dksX7_tells_0 9 rfl rfl)
theorem dX7_tells_12 : decode cX7_tells 12 = .ok (.iload_n 2, 1) := dk_28 (dk_at dksX7_tells_0 12 rfl rfl)
theorem dX7_tells_13 : decode cX7_tells 13 = .ok (.ireturn, 1) := dk_172 (dk_at dksX7_tells_0 13 rfl rfl)
theorem dX7_tells_14 : decode cX7_tells 14 = .ok (.aload_n 0, 1) := dk_42 (dk_at dksX7_tells_0 14 rfl rfl)
theorem dX7_tells_15 : decode cX7_tells 15 = .ok (.iconst 0, 1) := dk_3 (dk_at dksX7_tells_0 15 rfl rfl)
theorem dX7_tells_16 : decode cX7_tells 16 = .ok (.putfield 324, 3) := dk_181 1 68 (dk_at dksX7_tells_0 16 rfl rfl)
theorem dX7_tells_19 : decode cX7_tells 19 = .ok (.iload_n 2, 1) := dk_28 (dk_at dksX7_tells_0 19 rfl rfl)
theorem dX7_tells_20 : decode cX7_tells 20 = .ok (.i2l, 1) := dk_133 (dk_at dksX7_tells_0 20 rfl rfl)
theorem dX7_tells_21 : decode cX7_tells 21 = .ok (.lstore_n 3, 1) := dk_66 (dk_at dksX7_tells_0 21 rfl rfl)
theorem dX7_tells_22 : decode cX7_tells 22 = .ok (.aload_n 0, 1) := dk_42 (dk_at dksX7_tells_0 22 rfl rfl)
theorem dX7_tells_23 : decode cX7_tells 23 = .ok (.sipush 400, 3) := dk_17 1 144 (dk_at dksX7_tells_1 0 rfl rfl)
theorem dX7_tells_26 : decode cX7_tells 26 = .ok (.aload_n 0, 1) := dk_42 (dk_at dksX7_tells_1 3 rfl rfl)
theorem dX7_tells_27 : decode cX7_tells 27 = .ok (.getfield 28, 3) := dk_180 0 28 (dk_at dksX7_tells_1 4 rfl rfl)
theorem dX7_tells_30 : decode cX7_tells 30 = .ok (.sipush 387, 3) := dk_17 1 131 (dk_at dksX7_tells_1 7 rfl rfl)
theorem dX7_tells_33 : decode cX7_tells 33 = .ok (.iaload, 1) := dk_46 (dk_at dksX7_tells_1 10 rfl rfl)
theorem dX7_tells_34 : decode cX7_tells 34 = .ok (.imul, 1) := dk_104 (dk_at dksX7_tells_1 11 rfl rfl)
theorem dX7_tells_35 : decode cX7_tells 35 = .ok (.putfield 294, 3) := dk_181 1 38 (dk_at dksX7_tells_1 12 rfl rfl)
theorem dX7_tells_38 : decode cX7_tells 38 = .ok (.aload_n 0, 1) := dk_42 (dk_at dksX7_tells_1 15 rfl rfl)
theorem dX7_tells_39 : decode cX7_tells 39 = .ok (.aload_n 0, 1) := dk_42 (dk_at dksX7_tells_1 16 rfl rfl)
theorem dX7_tells_40 : decode cX7_tells 40 = .ok (.getfield 294, 3) := dk_180 1 38 (dk_at dksX7_tells_1 17 rfl rfl)
theorem dX7_tells_43 : decode cX7_tells 43 = .ok (.aload_n 0, 1) := dk_42 (dk_at dksX7_tells_1 20 rfl rfl)
theorem dX7_tells_44 : decode cX7_tells 44 = .ok (.getfield 28, 3) := dk_180 0 28 (dk_at dksX7_tells_1 21 rfl rfl)
theorem dX7_tells_47 : decode cX7_tells 47 = .ok (.sipush 388, 3) := dk_17 1 132 (dk_at dksX7_tells_2 0 rfl rfl)
theorem dX7_tells_50 : decode cX7_tells 50 = .ok (.aload_n 0, 1) := dk_42 (dk_at dksX7_tells_2 3 rfl rfl)
theorem dX7_tells_51 : decode cX7_tells 51 = .ok (.getfield 28, 3) := dk_180 0 28 (dk_at dksX7_tells_2 4 rfl rfl)
theorem dX7_tells_54 : decode cX7_tells 54 = .ok (.sipush 387, 3) := dk_17 1 131 (dk_at dksX7_tells_2 7 rfl rfl)
theorem dX7_tells_57 : decode cX7_tells 57 = .ok (.iaload, 1) := dk_46 (dk_at dksX7_tells_2 10 rfl rfl)
theorem dX7_tells_58 : decode cX7_tells 58 = .ok (.iadd, 1) := dk_96 (dk_at dksX7_tells_2 11 rfl rfl)
theorem dX7_tells_59 : decode cX7_tells 59 = .ok (.iaload, 1) := dk_46 (dk_at dksX7_tells_2 12 rfl rfl)
theorem dX7_tells_60 : decode cX7_tells 60 = .ok (.iadd, 1) := dk_96 (dk_at dksX7_tells_2 13 rfl rfl)
theorem dX7_tells_61 : decode cX7_tells 61 = .ok (.putfield 291, 3) := dk_181 1 35 (dk_at dksX7_tells_2 14 rfl rfl)
theorem dX7_tells_64 : decode cX7_tells 64 = .ok (.aload_n 0, 1) := dk_42 (dk_at dksX7_tells_2 17 rfl rfl)
theorem dX7_tells_65 : decode cX7_tells 65 = .ok (.getfield 294, 3) := dk_180 1 38 (dk_at dksX7_tells_2 18 rfl rfl)
theorem dX7_tells_68 : decode cX7_tells 68 = .ok (.aload_n 0, 1) := dk_42 (dk_at dksX7_tells_2 21 rfl rfl)
theorem dX7_tells_69 : decode cX7_tells 69 = .ok (.getfield 291, 3) := dk_180 1 35 (dk_at dksX7_tells_3 0 rfl rfl)
theorem dX7_tells_72 : decode cX7_tells 72 = .ok (.if_icmp .ge 144, 3) := dk_162 0 144 (dk_at dksX7_tells_3 3 rfl rfl)
theorem dX7_tells_75 : decode cX7_tells 75 = .ok (.aload_n 0, 1) := dk_42 (dk_at dksX7_tells_3 6 rfl rfl)
theorem dX7_tells_76 : decode cX7_tells 76 = .ok (.aload_n 0, 1) := dk_42 (dk_at dksX7_tells_3 7 rfl rfl)
theorem dX7_tells_77 : decode cX7_tells 77 = .ok (.getfield 294, 3) := dk_180 1 38 (dk_at dksX7_tells_3 8 rfl rfl)
theorem dX7_tells_80 : decode cX7_tells 80 = .ok (.invokevirtual 297, 3) := dk_182 1 41 (dk_at dksX7_tells_3 11 rfl rfl)
theorem dX7_tells_83 : decode cX7_tells 83 = .ok (.istore 5, 2) := dk_54 5 (dk_at dksX7_tells_3 14 rfl rfl)
theorem dX7_tells_85 : decode cX7_tells 85 = .ok (.aload_n 0, 1) := dk_42 (dk_at dksX7_tells_3 16 rfl rfl)
theorem dX7_tells_86 : decode cX7_tells 86 = .ok (.iconst 0, 1) := dk_3 (dk_at dksX7_tells_3 17 rfl rfl)
theorem dX7_tells_87 : decode cX7_tells 87 = .ok (.putfield 304, 3) := dk_181 1 48 (dk_at dksX7_tells_3 18 rfl rfl)
theorem dX7_tells_90 : decode cX7_tells 90 = .ok (.aload_n 0, 1) := dk_42 (dk_at dksX7_tells_3 21 rfl rfl)
theorem dX7_tells_91 : decode cX7_tells 91 = .ok (.dup, 1) := dk_89 (dk_at dksX7_tells_3 22 rfl rfl)
theorem dX7_tells_92 : decode cX7_tells 92 = .ok (.getfield 294, 3) := dk_180 1 38 (dk_at dksX7_tells_4 0 rfl rfl)
theorem dX7_tells_95 : decode cX7_tells 95 = .ok (.iconst 1, 1) := dk_4 (dk_at dksX7_tells_4 3 rfl rfl)
theorem dX7_tells_96 : decode cX7_tells 96 = .ok (.iadd, 1) := dk_96 (dk_at dksX7_tells_4 4 rfl rfl)
theorem dX7_tells_97 : decode cX7_tells 97 = .ok (.putfield 294, 3) := dk_181 1 38 (dk_at dksX7_tells_4 5 rfl rfl)
theorem dX7_tells_100 : decode cX7_tells 100 = .ok (.iload 5, 2) := dk_21 5 (dk_at dksX7_tells_4 8 rfl rfl)
theorem dX7_tells_102 : decode cX7_tells 102 = .ok (.iconst 2, 1) := dk_5 (dk_at dksX7_tells_4 10 rfl rfl)
theorem dX7_tells_103 : decode cX7_tells 103 = .ok (.if_icmp .ne 7, 3) := dk_160 0 7 (dk_at dksX7_tells_4 11 rfl rfl)
theorem dX7_tells_106 : decode cX7_tells 106 = .ok (.lconst 1, 1) := dk_10 (dk_at dksX7_tells_4 14 rfl rfl)
theorem dX7_tells_107 : decode cX7_tells 107 = .ok (.goto 8, 3) := dk_167 0 8 (dk_at dksX7_tells_4 15 rfl rfl)
theorem dX7_tells_110 : decode cX7_tells 110 = .ok (.aload_n 0, 1) := dk_42 (dk_at dksX7_tells_4 18 rfl rfl)
theorem dX7_tells_111 : decode cX7_tells 111 = .ok (.iconst 1, 1) := dk_4 (dk_at dksX7_tells_4 19 rfl rfl)
theorem dX7_tells_112 : decode cX7_tells 112 = .ok (.invokevirtual 321, 3) := dk_182 1 65 (dk_at dksX7_tells_4 20 rfl rfl)
theorem dX7_tells_115 : decode cX7_tells 115 = .ok (.lstore 6, 2) := dk_55 6 (dk_at dksX7_tells_5 0 rfl rfl)
theorem dX7_tells_117 : decode cX7_tells 117 = .ok (.aload_n 0, 1) := dk_42 (dk_at dksX7_tells_5 2 rfl rfl)
theorem dX7_tells_118 : decode cX7_tells 118 = .ok (.getfield 304, 3) := dk_180 1 48 (dk_at dksX7_tells_5 3 rfl rfl)
theorem dX7_tells_121 : decode cX7_tells 121 = .ok (.istore 8, 2) := dk_54 8 (dk_at dksX7_tells_5 6 rfl rfl)
theorem dX7_tells_123 : decode cX7_tells 123 = .ok (.aload_n 0, 1) := dk_42 (dk_at dksX7_tells_5 8 rfl rfl)
theorem dX7_tells_124 : decode cX7_tells 124 = .ok (.iconst 0, 1) := dk_3 (dk_at dksX7_tells_5 9 rfl rfl)
theorem dX7_tells_125 : decode cX7_tells 125 = .ok (.putfield 304, 3) := dk_181 1 48 (dk_at dksX7_tells_5 10 rfl rfl)
theorem dX7_tells_128 : decode cX7_tells 128 = .ok (.aload_n 0, 1) := dk_42 (dk_at dksX7_tells_5 13 rfl rfl)
theorem dX7_tells_129 : decode cX7_tells 129 = .ok (.iconst 3, 1) := dk_6 (dk_at dksX7_tells_5 14 rfl rfl)
theorem dX7_tells_130 : decode cX7_tells 130 = .ok (.invokevirtual 318, 3) := dk_182 1 62 (dk_at dksX7_tells_5 15 rfl rfl)
theorem dX7_tells_133 : decode cX7_tells 133 = .ok (.ifCond .eq 11, 3) := dk_153 0 11 (dk_at dksX7_tells_5 18 rfl rfl)
theorem dX7_tells_136 : decode cX7_tells 136 = .ok (.aload_n 0, 1) := dk_42 (dk_at dksX7_tells_5 21 rfl rfl)
theorem dX7_tells_137 : decode cX7_tells 137 = .ok (.iconst 1, 1) := dk_4 (dk_at dksX7_tells_5 22 rfl rfl)
theorem dX7_tells_138 : decode cX7_tells 138 = .ok (.invokevirtual 345, 3) := dk_182 1 89 (dk_at dksX7_tells_6 0 rfl rfl)
theorem dX7_tells_141 : decode cX7_tells 141 = .ok (.ifCond .eq 7, 3) := dk_153 0 7 (dk_at dksX7_tells_6 3 rfl rfl)
theorem dX7_tells_144 : decode cX7_tells 144 = .ok (.iconst 1, 1) := dk_4 (dk_at dksX7_tells_6 6 rfl rfl)
theorem dX7_tells_145 : decode cX7_tells 145 = .ok (.goto 4, 3) := dk_167 0 4 (dk_at dksX7_tells_6 7 rfl rfl)
theorem dX7_tells_148 : decode cX7_tells 148 = .ok (.iconst 0, 1) := dk_3 (dk_at dksX7_tells_6 10 rfl rfl)
theorem dX7_tells_149 : decode cX7_tells 149 = .ok (.istore 9, 2) := dk_54 9 (dk_at dksX7_tells_6 11 rfl rfl)
theorem dX7_tells_151 : decode cX7_tells 151 = .ok (.iload 5, 2) := dk_21 5 (dk_at dksX7_tells_6 13 rfl rfl)
theorem dX7_tells_153 : decode cX7_tells 153 = .ok (.iload_n 1, 1) := dk_27 (dk_at dksX7_tells_6 15 rfl rfl)
theorem dX7_tells_154 : decode cX7_tells 154 = .ok (.if_icmp .ne 49, 3) := dk_160 0 49 (dk_at dksX7_tells_6 16 rfl rfl)
theorem dX7_tells_157 : decode cX7_tells 157 = .ok (.iload 9, 2) := dk_21 9 (dk_at dksX7_tells_6 19 rfl rfl)
theorem dX7_tells_159 : decode cX7_tells 159 = .ok (.ifCond .eq 44, 3) := dk_153 0 44 (dk_at dksX7_tells_6 21 rfl rfl)
theorem dX7_tells_162 : decode cX7_tells 162 = .ok (.aload_n 0, 1) := dk_42 (dk_at dksX7_tells_7 0 rfl rfl)
theorem dX7_tells_163 : decode cX7_tells 163 = .ok (.getfield 304, 3) := dk_180 1 48 (dk_at dksX7_tells_7 1 rfl rfl)
theorem dX7_tells_166 : decode cX7_tells 166 = .ok (.ifCond .ne 37, 3) := dk_154 0 37 (dk_at dksX7_tells_7 4 rfl rfl)
theorem dX7_tells_169 : decode cX7_tells 169 = .ok (.iload 8, 2) := dk_21 8 (dk_at dksX7_tells_7 7 rfl rfl)
theorem dX7_tells_171 : decode cX7_tells 171 = .ok (.ifCond .ne 32, 3) := dk_154 0 32 (dk_at dksX7_tells_7 9 rfl rfl)
theorem dX7_tells_174 : decode cX7_tells 174 = .ok (.lload 6, 2) := dk_22 6 (dk_at dksX7_tells_7 12 rfl rfl)
theorem dX7_tells_176 : decode cX7_tells 176 = .ok (.lconst 0, 1) := dk_9 (dk_at dksX7_tells_7 14 rfl rfl)
theorem dX7_tells_177 : decode cX7_tells 177 = .ok (.lcmp, 1) := dk_148 (dk_at dksX7_tells_7 15 rfl rfl)
theorem dX7_tells_178 : decode cX7_tells 178 = .ok (.ifCond .ge 7, 3) := dk_156 0 7 (dk_at dksX7_tells_7 16 rfl rfl)
theorem dX7_tells_181 : decode cX7_tells 181 = .ok (.lconst 0, 1) := dk_9 (dk_at dksX7_tells_7 19 rfl rfl)
theorem dX7_tells_182 : decode cX7_tells 182 = .ok (.goto 20, 3) := dk_167 0 20 (dk_at dksX7_tells_7 20 rfl rfl)
theorem dX7_tells_185 : decode cX7_tells 185 = .ok (.lload 6, 2) := dk_22 6 (dk_at dksX7_tells_8 0 rfl rfl)
theorem dX7_tells_187 : decode cX7_tells 187 = .ok (.ldc2_w 348, 3) := dk_20 1 92 (dk_at dksX7_tells_8 2 rfl rfl)
theorem dX7_tells_190 : decode cX7_tells 190 = .ok (.lcmp, 1) := dk_148 (dk_at dksX7_tells_8 5 rfl rfl)
theorem dX7_tells_191 : decode cX7_tells 191 = .ok (.ifCond .le 9, 3) := dk_158 0 9 (dk_at dksX7_tells_8 6 rfl rfl)
theorem dX7_tells_194 : decode cX7_tells 194 = .ok (.ldc2_w 348, 3) := dk_20 1 92 (dk_at dksX7_tells_8 9 rfl rfl)
theorem dX7_tells_197 : decode cX7_tells 197 = .ok (.goto 5, 3) := dk_167 0 5 (dk_at dksX7_tells_8 12 rfl rfl)
theorem dX7_tells_200 : decode cX7_tells 200 = .ok (.lload 6, 2) := dk_22 6 (dk_at dksX7_tells_8 15 rfl rfl)
theorem dX7_tells_202 : decode cX7_tells 202 = .ok (.lstore_n 3, 1) := dk_66 (dk_at dksX7_tells_8 17 rfl rfl)
theorem dX7_tells_203 : decode cX7_tells 203 = .ok (.aload_n 0, 1) := dk_42 (dk_at dksX7_tells_8 18 rfl rfl)
theorem dX7_tells_204 : decode cX7_tells 204 = .ok (.dup, 1) := dk_89 (dk_at dksX7_tells_8 19 rfl rfl)
theorem dX7_tells_205 : decode cX7_tells 205 = .ok (.getfield 294, 3) := dk_180 1 38 (dk_at dksX7_tells_8 20 rfl rfl)
theorem dX7_tells_208 : decode cX7_tells 208 = .ok (.iconst 1, 1) := dk_4 (dk_at dksX7_tells_8 23 rfl rfl)
theorem dX7_tells_209 : decode cX7_tells 209 = .ok (.iadd, 1) := dk_96 (dk_at dksX7_tells_9 0 rfl rfl)
theorem dX7_tells_210 : decode cX7_tells 210 = .ok (.putfield 294, 3) := dk_181 1 38 (dk_at dksX7_tells_9 1 rfl rfl)
theorem dX7_tells_213 : decode cX7_tells 213 = .ok (.goto (-149), 3) := dk_167 255 107 (dk_at dksX7_tells_9 4 rfl rfl)
theorem dX7_tells_216 : decode cX7_tells 216 = .ok (.lload_n 3, 1) := dk_33 (dk_at dksX7_tells_9 7 rfl rfl)
theorem dX7_tells_217 : decode cX7_tells 217 = .ok (.l2i, 1) := dk_136 (dk_at dksX7_tells_9 8 rfl rfl)
theorem dX7_tells_218 : decode cX7_tells 218 = .ok (.ireturn, 1) := dk_172 (dk_at dksX7_tells_9 9 rfl rfl)
abbrev cX7_codeAt : ByteArray := prog_32_method_58_code
def yX7_codeAt : MethodName := ⟨RX7, "codeAt", "(I)I"⟩
def dkwX7_codeAt_0 : List UInt8 := [27, 42, 180, 1, 35, 162, 0, 16, 42, 180, 0, 28, 17, 1, 139, 27, 96, 46, 167, 0, 4, 3, 172]
abbrev dktX7_codeAt_0 : List UInt8 := dkwX7_codeAt_0 ++ []
theorem dksX7_codeAt_0 : cX7_codeAt.data.toList.drop 0 = dktX7_codeAt_0 := by decide +kernel
theorem dX7_codeAt_0 : decode cX7_codeAt 0 = .ok (.iload_n 1, 1) := dk_27 (dk_at dksX7_codeAt_0 0 rfl rfl)
theorem dX7_codeAt_1 : decode cX7_codeAt 1 = .ok (.aload_n 0, 1) := dk_42 (dk_at dksX7_codeAt_0 1 rfl rfl)
theorem dX7_codeAt_2 : decode cX7_codeAt 2 = .ok (.getfield 291, 3) := dk_180 1 35 (dk_at dksX7_codeAt_0 2 rfl rfl)
theorem dX7_codeAt_5 : decode cX7_codeAt 5 = .ok (.if_icmp .ge 16, 3) := dk_162 0 16 (dk_at dksX7_codeAt_0 5 rfl rfl)
theorem dX7_codeAt_8 : decode cX7_codeAt 8 = .ok (.aload_n 0, 1) := dk_42 (dk_at dksX7_codeAt_0 8 rfl rfl)
theorem dX7_codeAt_9 : decode cX7_codeAt 9 = .ok (.getfield 28, 3) := dk_180 0 28 (dk_at dksX7_codeAt_0 9 rfl rfl)
theorem dX7_codeAt_12 : decode cX7_codeAt 12 = .ok (.sipush 395, 3) := dk_17 1 139 (dk_at dksX7_codeAt_0 12 rfl rfl)
theorem dX7_codeAt_15 : decode cX7_codeAt 15 = .ok (.iload_n 1, 1) := dk_27 (dk_at dksX7_codeAt_0 15 rfl rfl)
theorem dX7_codeAt_16 : decode cX7_codeAt 16 = .ok (.iadd, 1) := dk_96 (dk_at dksX7_codeAt_0 16 rfl rfl)
theorem dX7_codeAt_17 : decode cX7_codeAt 17 = .ok (.iaload, 1) := dk_46 (dk_at dksX7_codeAt_0 17 rfl rfl)
theorem dX7_codeAt_18 : decode cX7_codeAt 18 = .ok (.goto 4, 3) := dk_167 0 4 (dk_at dksX7_codeAt_0 18 rfl rfl)
theorem dX7_codeAt_21 : decode cX7_codeAt 21 = .ok (.iconst 0, 1) := dk_3 (dk_at dksX7_codeAt_0 21 rfl rfl)
theorem dX7_codeAt_22 : decode cX7_codeAt 22 = .ok (.ireturn, 1) := dk_172 (dk_at dksX7_codeAt_0 22 rfl rfl)
abbrev cX7_sumOf : ByteArray := prog_32_method_61_code
def yX7_sumOf : MethodName := ⟨RX7, "sumOf", "(Z)J"⟩
def dkwX7_sumOf_4 : List UInt8 := [182, 1, 55, 65, 167, 255, 162, 32, 173]
abbrev dktX7_sumOf_4 : List UInt8 := dkwX7_sumOf_4 ++ []
def dkwX7_sumOf_3 : List UInt8 := [27, 182, 1, 51, 55, 5, 42, 21, 4, 153, 0, 10, 32, 22, 5, 97, 167, 0, 7, 32, 22, 5, 101, 27]
abbrev dktX7_sumOf_3 : List UInt8 := dkwX7_sumOf_3 ++ dktX7_sumOf_4
def dkwX7_sumOf_2 : List UInt8 := [184, 0, 253, 160, 0, 7, 4, 167, 0, 4, 3, 54, 4, 42, 89, 180, 1, 38, 4, 96, 181, 1, 38, 42]
abbrev dktX7_sumOf_2 : List UInt8 := dkwX7_sumOf_2 ++ dktX7_sumOf_3
def dkwX7_sumOf_1 : List UInt8 := [180, 1, 38, 182, 1, 41, 16, 45, 184, 0, 253, 160, 0, 68, 42, 42, 180, 1, 38, 182, 1, 41, 16, 43]
abbrev dktX7_sumOf_1 : List UInt8 := dkwX7_sumOf_1 ++ dktX7_sumOf_2
def dkwX7_sumOf_0 : List UInt8 := [42, 27, 182, 1, 51, 65, 42, 42, 180, 1, 38, 182, 1, 41, 16, 43, 184, 0, 253, 159, 0, 19, 42, 42]
abbrev dktX7_sumOf_0 : List UInt8 := dkwX7_sumOf_0 ++ dktX7_sumOf_1
theorem dksX7_sumOf_0 : cX7_sumOf.data.toList.drop 0 = dktX7_sumOf_0 := by decide +kernel
theorem dksX7_sumOf_1 : cX7_sumOf.data.toList.drop 24 = dktX7_sumOf_1 := dk_seg dksX7_sumOf_0 24 rfl rfl
theorem dksX7_sumOf_2 : cX7_sumOf.data.toList.drop 48 = dktX7_sumOf_2 := dk_seg dksX7_sumOf_1 24 rfl rfl
theorem dksX7_sumOf_3 : cX7_sumOf.data.toList.drop 72 = dktX7_sumOf_3 := dk_seg dksX7_sumOf_2 24 rfl rfl
theorem dksX7_sumOf_4 : cX7_sumOf.data.toList.drop 96 = dktX7_sumOf_4 := dk_seg dksX7_sumOf_3 24 rfl rfl
theorem dX7_sumOf_0 : decode cX7_sumOf 0 = .ok (.aload_n 0, 1) := dk_42 (dk_at dksX7_sumOf_0 0 rfl rfl)
theorem dX7_sumOf_1 : decode cX7_sumOf 1 = .ok (.iload_n 1, 1) := dk_27 (dk_at dksX7_sumOf_0 1 rfl rfl)
theorem dX7_sumOf_2 : decode cX7_sumOf 2 = .ok (.invokevirtual 307, 3) := dk_182 1 51 (dk_at dksX7_sumOf_0 2 rfl rfl)
theorem dX7_sumOf_5 : decode cX7_sumOf 5 = .ok (.lstore_n 2, 1) := dk_65 (dk_at dksX7_sumOf_0 5 rfl rfl)
theorem dX7_sumOf_6 : decode cX7_sumOf 6 = .ok (.aload_n 0, 1) := dk_42 (dk_at dksX7_sumOf_0 6 rfl rfl)
theorem dX7_sumOf_7 : decode cX7_sumOf 7 = .ok (.aload_n 0, 1) := dk_42 (dk_at dksX7_sumOf_0 7 rfl rfl)
theorem dX7_sumOf_8 : decode cX7_sumOf 8 = .ok (.getfield 294, 3) := dk_180 1 38 (dk_at dksX7_sumOf_0 8 rfl rfl)
theorem dX7_sumOf_11 : decode cX7_sumOf 11 = .ok (.invokevirtual 297, 3) := dk_182 1 41 (dk_at dksX7_sumOf_0 11 rfl rfl)
theorem dX7_sumOf_14 : decode cX7_sumOf 14 = .ok (.bipush 43, 2) := dk_16 43 (dk_at dksX7_sumOf_0 14 rfl rfl)
theorem dX7_sumOf_16 : decode cX7_sumOf 16 = .ok (.invokestatic 253, 3) := dk_184 0 253 (dk_at dksX7_sumOf_0 16 rfl rfl)
theorem dX7_sumOf_19 : decode cX7_sumOf 19 = .ok (.if_icmp .eq 19, 3) := dk_159 0 19 (dk_at dksX7_sumOf_0 19 rfl rfl)
theorem dX7_sumOf_22 : decode cX7_sumOf 22 = .ok (.aload_n 0, 1) := dk_42 (dk_at dksX7_sumOf_0 22 rfl rfl)
theorem dX7_sumOf_23 : decode cX7_sumOf 23 = .ok (.aload_n 0, 1) := dk_42 (dk_at dksX7_sumOf_0 23 rfl rfl)
theorem dX7_sumOf_24 : decode cX7_sumOf 24 = .ok (.getfield 294, 3) := dk_180 1 38 (dk_at dksX7_sumOf_1 0 rfl rfl)
theorem dX7_sumOf_27 : decode cX7_sumOf 27 = .ok (.invokevirtual 297, 3) := dk_182 1 41 (dk_at dksX7_sumOf_1 3 rfl rfl)
theorem dX7_sumOf_30 : decode cX7_sumOf 30 = .ok (.bipush 45, 2) := dk_16 45 (dk_at dksX7_sumOf_1 6 rfl rfl)
theorem dX7_sumOf_32 : decode cX7_sumOf 32 = .ok (.invokestatic 253, 3) := dk_184 0 253 (dk_at dksX7_sumOf_1 8 rfl rfl)
theorem dX7_sumOf_35 : decode cX7_sumOf 35 = .ok (.if_icmp .ne 68, 3) := dk_160 0 68 (dk_at dksX7_sumOf_1 11 rfl rfl)
theorem dX7_sumOf_38 : decode cX7_sumOf 38 = .ok (.aload_n 0, 1) := dk_42 (dk_at dksX7_sumOf_1 14 rfl rfl)
theorem dX7_sumOf_39 : decode cX7_sumOf 39 = .ok (.aload_n 0, 1) := dk_42 (dk_at dksX7_sumOf_1 15 rfl rfl)
theorem dX7_sumOf_40 : decode cX7_sumOf 40 = .ok (.getfield 294, 3) := dk_180 1 38 (dk_at dksX7_sumOf_1 16 rfl rfl)
theorem dX7_sumOf_43 : decode cX7_sumOf 43 = .ok (.invokevirtual 297, 3) := dk_182 1 41 (dk_at dksX7_sumOf_1 19 rfl rfl)
theorem dX7_sumOf_46 : decode cX7_sumOf 46 = .ok (.bipush 43, 2) := dk_16 43 (dk_at dksX7_sumOf_1 22 rfl rfl)
theorem dX7_sumOf_48 : decode cX7_sumOf 48 = .ok (.invokestatic 253, 3) := dk_184 0 253 (dk_at dksX7_sumOf_2 0 rfl rfl)
theorem dX7_sumOf_51 : decode cX7_sumOf 51 = .ok (.if_icmp .ne 7, 3) := dk_160 0 7 (dk_at dksX7_sumOf_2 3 rfl rfl)
theorem dX7_sumOf_54 : decode cX7_sumOf 54 = .ok (.iconst 1, 1) := dk_4 (dk_at dksX7_sumOf_2 6 rfl rfl)
theorem dX7_sumOf_55 : decode cX7_sumOf 55 = .ok (.goto 4, 3) := dk_167 0 4 (dk_at dksX7_sumOf_2 7 rfl rfl)
theorem dX7_sumOf_58 : decode cX7_sumOf 58 = .ok (.iconst 0, 1) := dk_3 (dk_at dksX7_sumOf_2 10 rfl rfl)
theorem dX7_sumOf_59 : decode cX7_sumOf 59 = .ok (.istore 4, 2) := dk_54 4 (dk_at dksX7_sumOf_2 11 rfl rfl)
theorem dX7_sumOf_61 : decode cX7_sumOf 61 = .ok (.aload_n 0, 1) := dk_42 (dk_at dksX7_sumOf_2 13 rfl rfl)
theorem dX7_sumOf_62 : decode cX7_sumOf 62 = .ok (.dup, 1) := dk_89 (dk_at dksX7_sumOf_2 14 rfl rfl)
theorem dX7_sumOf_63 : decode cX7_sumOf 63 = .ok (.getfield 294, 3) := dk_180 1 38 (dk_at dksX7_sumOf_2 15 rfl rfl)
theorem dX7_sumOf_66 : decode cX7_sumOf 66 = .ok (.iconst 1, 1) := dk_4 (dk_at dksX7_sumOf_2 18 rfl rfl)
theorem dX7_sumOf_67 : decode cX7_sumOf 67 = .ok (.iadd, 1) := dk_96 (dk_at dksX7_sumOf_2 19 rfl rfl)
theorem dX7_sumOf_68 : decode cX7_sumOf 68 = .ok (.putfield 294, 3) := dk_181 1 38 (dk_at dksX7_sumOf_2 20 rfl rfl)
theorem dX7_sumOf_71 : decode cX7_sumOf 71 = .ok (.aload_n 0, 1) := dk_42 (dk_at dksX7_sumOf_2 23 rfl rfl)
theorem dX7_sumOf_72 : decode cX7_sumOf 72 = .ok (.iload_n 1, 1) := dk_27 (dk_at dksX7_sumOf_3 0 rfl rfl)
theorem dX7_sumOf_73 : decode cX7_sumOf 73 = .ok (.invokevirtual 307, 3) := dk_182 1 51 (dk_at dksX7_sumOf_3 1 rfl rfl)
theorem dX7_sumOf_76 : decode cX7_sumOf 76 = .ok (.lstore 5, 2) := dk_55 5 (dk_at dksX7_sumOf_3 4 rfl rfl)
theorem dX7_sumOf_78 : decode cX7_sumOf 78 = .ok (.aload_n 0, 1) := dk_42 (dk_at dksX7_sumOf_3 6 rfl rfl)
theorem dX7_sumOf_79 : decode cX7_sumOf 79 = .ok (.iload 4, 2) := dk_21 4 (dk_at dksX7_sumOf_3 7 rfl rfl)
theorem dX7_sumOf_81 : decode cX7_sumOf 81 = .ok (.ifCond .eq 10, 3) := dk_153 0 10 (dk_at dksX7_sumOf_3 9 rfl rfl)
theorem dX7_sumOf_84 : decode cX7_sumOf 84 = .ok (.lload_n 2, 1) := dk_32 (dk_at dksX7_sumOf_3 12 rfl rfl)
theorem dX7_sumOf_85 : decode cX7_sumOf 85 = .ok (.lload 5, 2) := dk_22 5 (dk_at dksX7_sumOf_3 13 rfl rfl)
theorem dX7_sumOf_87 : decode cX7_sumOf 87 = .ok (.ladd, 1) := dk_97 (dk_at dksX7_sumOf_3 15 rfl rfl)
theorem dX7_sumOf_88 : decode cX7_sumOf 88 = .ok (.goto 7, 3) := dk_167 0 7 (dk_at dksX7_sumOf_3 16 rfl rfl)
theorem dX7_sumOf_91 : decode cX7_sumOf 91 = .ok (.lload_n 2, 1) := dk_32 (dk_at dksX7_sumOf_3 19 rfl rfl)
theorem dX7_sumOf_92 : decode cX7_sumOf 92 = .ok (.lload 5, 2) := dk_22 5 (dk_at dksX7_sumOf_3 20 rfl rfl)
theorem dX7_sumOf_94 : decode cX7_sumOf 94 = .ok (.lsub, 1) := dk_101 (dk_at dksX7_sumOf_3 22 rfl rfl)
theorem dX7_sumOf_95 : decode cX7_sumOf 95 = .ok (.iload_n 1, 1) := dk_27 (dk_at dksX7_sumOf_3 23 rfl rfl)
theorem dX7_sumOf_96 : decode cX7_sumOf 96 = .ok (.invokevirtual 311, 3) := dk_182 1 55 (dk_at dksX7_sumOf_4 0 rfl rfl)
theorem dX7_sumOf_99 : decode cX7_sumOf 99 = .ok (.lstore_n 2, 1) := dk_65 (dk_at dksX7_sumOf_4 3 rfl rfl)
theorem dX7_sumOf_100 : decode cX7_sumOf 100 = .ok (.goto (-94), 3) := dk_167 255 162 (dk_at dksX7_sumOf_4 4 rfl rfl)
theorem dX7_sumOf_103 : decode cX7_sumOf 103 = .ok (.lload_n 2, 1) := dk_32 (dk_at dksX7_sumOf_4 7 rfl rfl)
theorem dX7_sumOf_104 : decode cX7_sumOf 104 = .ok (.lreturn, 1) := dk_173 (dk_at dksX7_sumOf_4 8 rfl rfl)
abbrev cX7_termOf : ByteArray := prog_32_method_62_code
def yX7_termOf : MethodName := ⟨RX7, "termOf", "(Z)J"⟩
def dkwX7_termOf_7 : List UInt8 := [167, 255, 97, 32, 173]
abbrev dktX7_termOf_7 : List UInt8 := dkwX7_termOf_7 ++ []
def dkwX7_termOf_6 : List UInt8 := [184, 0, 253, 160, 0, 10, 32, 22, 5, 109, 167, 0, 7, 32, 22, 5, 113, 27, 182, 1, 55, 65]
abbrev dktX7_termOf_6 : List UInt8 := dkwX7_termOf_6 ++ dktX7_termOf_7
def dkwX7_termOf_5 : List UInt8 := [55, 5, 42, 21, 4, 16, 42, 184, 0, 253, 160, 0, 10, 32, 22, 5, 105, 167, 0, 24, 21, 4, 16, 47]
abbrev dktX7_termOf_5 : List UInt8 := dkwX7_termOf_5 ++ dktX7_termOf_6
def dkwX7_termOf_4 : List UInt8 := [154, 0, 26, 42, 42, 180, 1, 48, 154, 0, 7, 27, 153, 0, 7, 4, 167, 0, 4, 3, 181, 1, 48, 10]
abbrev dktX7_termOf_4 : List UInt8 := dkwX7_termOf_4 ++ dktX7_termOf_5
def dkwX7_termOf_3 : List UInt8 := [181, 1, 38, 42, 27, 182, 1, 59, 55, 5, 21, 4, 16, 42, 184, 0, 253, 159, 0, 33, 22, 5, 9, 148]
abbrev dktX7_termOf_3 : List UInt8 := dkwX7_termOf_3 ++ dktX7_termOf_4
def dkwX7_termOf_2 : List UInt8 := [184, 0, 253, 160, 0, 117, 42, 42, 180, 1, 38, 182, 1, 41, 54, 4, 42, 89, 180, 1, 38, 4, 96]
abbrev dktX7_termOf_2 : List UInt8 := dkwX7_termOf_2 ++ dktX7_termOf_3
def dkwX7_termOf_1 : List UInt8 := [180, 1, 38, 182, 1, 41, 16, 47, 184, 0, 253, 159, 0, 19, 42, 42, 180, 1, 38, 182, 1, 41, 16, 37]
abbrev dktX7_termOf_1 : List UInt8 := dkwX7_termOf_1 ++ dktX7_termOf_2
def dkwX7_termOf_0 : List UInt8 := [42, 27, 182, 1, 59, 65, 42, 42, 180, 1, 38, 182, 1, 41, 16, 42, 184, 0, 253, 159, 0, 35, 42, 42]
abbrev dktX7_termOf_0 : List UInt8 := dkwX7_termOf_0 ++ dktX7_termOf_1
theorem dksX7_termOf_0 : cX7_termOf.data.toList.drop 0 = dktX7_termOf_0 := by decide +kernel
theorem dksX7_termOf_1 : cX7_termOf.data.toList.drop 24 = dktX7_termOf_1 := dk_seg dksX7_termOf_0 24 rfl rfl
theorem dksX7_termOf_2 : cX7_termOf.data.toList.drop 48 = dktX7_termOf_2 := dk_seg dksX7_termOf_1 24 rfl rfl
theorem dksX7_termOf_3 : cX7_termOf.data.toList.drop 71 = dktX7_termOf_3 := dk_seg dksX7_termOf_2 23 rfl rfl
theorem dksX7_termOf_4 : cX7_termOf.data.toList.drop 95 = dktX7_termOf_4 := dk_seg dksX7_termOf_3 24 rfl rfl
theorem dksX7_termOf_5 : cX7_termOf.data.toList.drop 119 = dktX7_termOf_5 := dk_seg dksX7_termOf_4 24 rfl rfl
theorem dksX7_termOf_6 : cX7_termOf.data.toList.drop 143 = dktX7_termOf_6 := dk_seg dksX7_termOf_5 24 rfl rfl
theorem dksX7_termOf_7 : cX7_termOf.data.toList.drop 165 = dktX7_termOf_7 := dk_seg dksX7_termOf_6 22 rfl rfl
theorem dX7_termOf_0 : decode cX7_termOf 0 = .ok (.aload_n 0, 1) := dk_42 (dk_at dksX7_termOf_0 0 rfl rfl)
theorem dX7_termOf_1 : decode cX7_termOf 1 = .ok (.iload_n 1, 1) := dk_27 (dk_at dksX7_termOf_0 1 rfl rfl)
theorem dX7_termOf_2 : decode cX7_termOf 2 = .ok (.invokevirtual 315, 3) := dk_182 1 59 (dk_at dksX7_termOf_0 2 rfl rfl)
theorem dX7_termOf_5 : decode cX7_termOf 5 = .ok (.lstore_n 2, 1) := dk_65 (dk_at dksX7_termOf_0 5 rfl rfl)
theorem dX7_termOf_6 : decode cX7_termOf 6 = .ok (.aload_n 0, 1) := dk_42 (dk_at dksX7_termOf_0 6 rfl rfl)
theorem dX7_termOf_7 : decode cX7_termOf 7 = .ok (.aload_n 0, 1) := dk_42 (dk_at dksX7_termOf_0 7 rfl rfl)
theorem dX7_termOf_8 : decode cX7_termOf 8 = .ok (.getfield 294, 3) := dk_180 1 38 (dk_at dksX7_termOf_0 8 rfl rfl)
theorem dX7_termOf_11 : decode cX7_termOf 11 = .ok (.invokevirtual 297, 3) := dk_182 1 41 (dk_at dksX7_termOf_0 11 rfl rfl)
theorem dX7_termOf_14 : decode cX7_termOf 14 = .ok (.bipush 42, 2) := dk_16 42 (dk_at dksX7_termOf_0 14 rfl rfl)
theorem dX7_termOf_16 : decode cX7_termOf 16 = .ok (.invokestatic 253, 3) := dk_184 0 253 (dk_at dksX7_termOf_0 16 rfl rfl)
theorem dX7_termOf_19 : decode cX7_termOf 19 = .ok (.if_icmp .eq 35, 3) := dk_159 0 35 (dk_at dksX7_termOf_0 19 rfl rfl)
theorem dX7_termOf_22 : decode cX7_termOf 22 = .ok (.aload_n 0, 1) := dk_42 (dk_at dksX7_termOf_0 22 rfl rfl)
theorem dX7_termOf_23 : decode cX7_termOf 23 = .ok (.aload_n 0, 1) := dk_42 (dk_at dksX7_termOf_0 23 rfl rfl)
theorem dX7_termOf_24 : decode cX7_termOf 24 = .ok (.getfield 294, 3) := dk_180 1 38 (dk_at dksX7_termOf_1 0 rfl rfl)
theorem dX7_termOf_27 : decode cX7_termOf 27 = .ok (.invokevirtual 297, 3) := dk_182 1 41 (dk_at dksX7_termOf_1 3 rfl rfl)
theorem dX7_termOf_30 : decode cX7_termOf 30 = .ok (.bipush 47, 2) := dk_16 47 (dk_at dksX7_termOf_1 6 rfl rfl)
theorem dX7_termOf_32 : decode cX7_termOf 32 = .ok (.invokestatic 253, 3) := dk_184 0 253 (dk_at dksX7_termOf_1 8 rfl rfl)
theorem dX7_termOf_35 : decode cX7_termOf 35 = .ok (.if_icmp .eq 19, 3) := dk_159 0 19 (dk_at dksX7_termOf_1 11 rfl rfl)
theorem dX7_termOf_38 : decode cX7_termOf 38 = .ok (.aload_n 0, 1) := dk_42 (dk_at dksX7_termOf_1 14 rfl rfl)
theorem dX7_termOf_39 : decode cX7_termOf 39 = .ok (.aload_n 0, 1) := dk_42 (dk_at dksX7_termOf_1 15 rfl rfl)
theorem dX7_termOf_40 : decode cX7_termOf 40 = .ok (.getfield 294, 3) := dk_180 1 38 (dk_at dksX7_termOf_1 16 rfl rfl)
theorem dX7_termOf_43 : decode cX7_termOf 43 = .ok (.invokevirtual 297, 3) := dk_182 1 41 (dk_at dksX7_termOf_1 19 rfl rfl)
theorem dX7_termOf_46 : decode cX7_termOf 46 = .ok (.bipush 37, 2) := dk_16 37 (dk_at dksX7_termOf_1 22 rfl rfl)
theorem dX7_termOf_48 : decode cX7_termOf 48 = .ok (.invokestatic 253, 3) := dk_184 0 253 (dk_at dksX7_termOf_2 0 rfl rfl)
theorem dX7_termOf_51 : decode cX7_termOf 51 = .ok (.if_icmp .ne 117, 3) := dk_160 0 117 (dk_at dksX7_termOf_2 3 rfl rfl)
theorem dX7_termOf_54 : decode cX7_termOf 54 = .ok (.aload_n 0, 1) := dk_42 (dk_at dksX7_termOf_2 6 rfl rfl)
theorem dX7_termOf_55 : decode cX7_termOf 55 = .ok (.aload_n 0, 1) := dk_42 (dk_at dksX7_termOf_2 7 rfl rfl)
theorem dX7_termOf_56 : decode cX7_termOf 56 = .ok (.getfield 294, 3) := dk_180 1 38 (dk_at dksX7_termOf_2 8 rfl rfl)
theorem dX7_termOf_59 : decode cX7_termOf 59 = .ok (.invokevirtual 297, 3) := dk_182 1 41 (dk_at dksX7_termOf_2 11 rfl rfl)
theorem dX7_termOf_62 : decode cX7_termOf 62 = .ok (.istore 4, 2) := dk_54 4 (dk_at dksX7_termOf_2 14 rfl rfl)
theorem dX7_termOf_64 : decode cX7_termOf 64 = .ok (.aload_n 0, 1) := dk_42 (dk_at dksX7_termOf_2 16 rfl rfl)
theorem dX7_termOf_65 : decode cX7_termOf 65 = .ok (.dup, 1) := dk_89 (dk_at dksX7_termOf_2 17 rfl rfl)
theorem dX7_termOf_66 : decode cX7_termOf 66 = .ok (.getfield 294, 3) := dk_180 1 38 (dk_at dksX7_termOf_2 18 rfl rfl)
theorem dX7_termOf_69 : decode cX7_termOf 69 = .ok (.iconst 1, 1) := dk_4 (dk_at dksX7_termOf_2 21 rfl rfl)
theorem dX7_termOf_70 : decode cX7_termOf 70 = .ok (.iadd, 1) := dk_96 (dk_at dksX7_termOf_2 22 rfl rfl)
theorem dX7_termOf_71 : decode cX7_termOf 71 = .ok (.putfield 294, 3) := dk_181 1 38 (dk_at dksX7_termOf_3 0 rfl rfl)
theorem dX7_termOf_74 : decode cX7_termOf 74 = .ok (.aload_n 0, 1) := dk_42 (dk_at dksX7_termOf_3 3 rfl rfl)
theorem dX7_termOf_75 : decode cX7_termOf 75 = .ok (.iload_n 1, 1) := dk_27 (dk_at dksX7_termOf_3 4 rfl rfl)
theorem dX7_termOf_76 : decode cX7_termOf 76 = .ok (.invokevirtual 315, 3) := dk_182 1 59 (dk_at dksX7_termOf_3 5 rfl rfl)
theorem dX7_termOf_79 : decode cX7_termOf 79 = .ok (.lstore 5, 2) := dk_55 5 (dk_at dksX7_termOf_3 8 rfl rfl)
theorem dX7_termOf_81 : decode cX7_termOf 81 = .ok (.iload 4, 2) := dk_21 4 (dk_at dksX7_termOf_3 10 rfl rfl)
theorem dX7_termOf_83 : decode cX7_termOf 83 = .ok (.bipush 42, 2) := dk_16 42 (dk_at dksX7_termOf_3 12 rfl rfl)
theorem dX7_termOf_85 : decode cX7_termOf 85 = .ok (.invokestatic 253, 3) := dk_184 0 253 (dk_at dksX7_termOf_3 14 rfl rfl)
theorem dX7_termOf_88 : decode cX7_termOf 88 = .ok (.if_icmp .eq 33, 3) := dk_159 0 33 (dk_at dksX7_termOf_3 17 rfl rfl)
theorem dX7_termOf_91 : decode cX7_termOf 91 = .ok (.lload 5, 2) := dk_22 5 (dk_at dksX7_termOf_3 20 rfl rfl)
theorem dX7_termOf_93 : decode cX7_termOf 93 = .ok (.lconst 0, 1) := dk_9 (dk_at dksX7_termOf_3 22 rfl rfl)
theorem dX7_termOf_94 : decode cX7_termOf 94 = .ok (.lcmp, 1) := dk_148 (dk_at dksX7_termOf_3 23 rfl rfl)
theorem dX7_termOf_95 : decode cX7_termOf 95 = .ok (.ifCond .ne 26, 3) := dk_154 0 26 (dk_at dksX7_termOf_4 0 rfl rfl)
theorem dX7_termOf_98 : decode cX7_termOf 98 = .ok (.aload_n 0, 1) := dk_42 (dk_at dksX7_termOf_4 3 rfl rfl)
theorem dX7_termOf_99 : decode cX7_termOf 99 = .ok (.aload_n 0, 1) := dk_42 (dk_at dksX7_termOf_4 4 rfl rfl)
theorem dX7_termOf_100 : decode cX7_termOf 100 = .ok (.getfield 304, 3) := dk_180 1 48 (dk_at dksX7_termOf_4 5 rfl rfl)
theorem dX7_termOf_103 : decode cX7_termOf 103 = .ok (.ifCond .ne 7, 3) := dk_154 0 7 (dk_at dksX7_termOf_4 8 rfl rfl)
theorem dX7_termOf_106 : decode cX7_termOf 106 = .ok (.iload_n 1, 1) := dk_27 (dk_at dksX7_termOf_4 11 rfl rfl)
theorem dX7_termOf_107 : decode cX7_termOf 107 = .ok (.ifCond .eq 7, 3) := dk_153 0 7 (dk_at dksX7_termOf_4 12 rfl rfl)
theorem dX7_termOf_110 : decode cX7_termOf 110 = .ok (.iconst 1, 1) := dk_4 (dk_at dksX7_termOf_4 15 rfl rfl)
theorem dX7_termOf_111 : decode cX7_termOf 111 = .ok (.goto 4, 3) := dk_167 0 4 (dk_at dksX7_termOf_4 16 rfl rfl)
theorem dX7_termOf_114 : decode cX7_termOf 114 = .ok (.iconst 0, 1) := dk_3 (dk_at dksX7_termOf_4 19 rfl rfl)
theorem dX7_termOf_115 : decode cX7_termOf 115 = .ok (.putfield 304, 3) := dk_181 1 48 (dk_at dksX7_termOf_4 20 rfl rfl)
theorem dX7_termOf_118 : decode cX7_termOf 118 = .ok (.lconst 1, 1) := dk_10 (dk_at dksX7_termOf_4 23 rfl rfl)
theorem dX7_termOf_119 : decode cX7_termOf 119 = .ok (.lstore 5, 2) := dk_55 5 (dk_at dksX7_termOf_5 0 rfl rfl)
theorem dX7_termOf_121 : decode cX7_termOf 121 = .ok (.aload_n 0, 1) := dk_42 (dk_at dksX7_termOf_5 2 rfl rfl)
theorem dX7_termOf_122 : decode cX7_termOf 122 = .ok (.iload 4, 2) := dk_21 4 (dk_at dksX7_termOf_5 3 rfl rfl)
theorem dX7_termOf_124 : decode cX7_termOf 124 = .ok (.bipush 42, 2) := dk_16 42 (dk_at dksX7_termOf_5 5 rfl rfl)
theorem dX7_termOf_126 : decode cX7_termOf 126 = .ok (.invokestatic 253, 3) := dk_184 0 253 (dk_at dksX7_termOf_5 7 rfl rfl)
theorem dX7_termOf_129 : decode cX7_termOf 129 = .ok (.if_icmp .ne 10, 3) := dk_160 0 10 (dk_at dksX7_termOf_5 10 rfl rfl)
theorem dX7_termOf_132 : decode cX7_termOf 132 = .ok (.lload_n 2, 1) := dk_32 (dk_at dksX7_termOf_5 13 rfl rfl)
theorem dX7_termOf_133 : decode cX7_termOf 133 = .ok (.lload 5, 2) := dk_22 5 (dk_at dksX7_termOf_5 14 rfl rfl)
theorem dX7_termOf_135 : decode cX7_termOf 135 = .ok (.lmul, 1) := dk_105 (dk_at dksX7_termOf_5 16 rfl rfl)
theorem dX7_termOf_136 : decode cX7_termOf 136 = .ok (.goto 24, 3) := dk_167 0 24 (dk_at dksX7_termOf_5 17 rfl rfl)
theorem dX7_termOf_139 : decode cX7_termOf 139 = .ok (.iload 4, 2) := dk_21 4 (dk_at dksX7_termOf_5 20 rfl rfl)
theorem dX7_termOf_141 : decode cX7_termOf 141 = .ok (.bipush 47, 2) := dk_16 47 (dk_at dksX7_termOf_5 22 rfl rfl)
theorem dX7_termOf_143 : decode cX7_termOf 143 = .ok (.invokestatic 253, 3) := dk_184 0 253 (dk_at dksX7_termOf_6 0 rfl rfl)
theorem dX7_termOf_146 : decode cX7_termOf 146 = .ok (.if_icmp .ne 10, 3) := dk_160 0 10 (dk_at dksX7_termOf_6 3 rfl rfl)
theorem dX7_termOf_149 : decode cX7_termOf 149 = .ok (.lload_n 2, 1) := dk_32 (dk_at dksX7_termOf_6 6 rfl rfl)
theorem dX7_termOf_150 : decode cX7_termOf 150 = .ok (.lload 5, 2) := dk_22 5 (dk_at dksX7_termOf_6 7 rfl rfl)
theorem dX7_termOf_152 : decode cX7_termOf 152 = .ok (.ldiv, 1) := dk_109 (dk_at dksX7_termOf_6 9 rfl rfl)
theorem dX7_termOf_153 : decode cX7_termOf 153 = .ok (.goto 7, 3) := dk_167 0 7 (dk_at dksX7_termOf_6 10 rfl rfl)
theorem dX7_termOf_156 : decode cX7_termOf 156 = .ok (.lload_n 2, 1) := dk_32 (dk_at dksX7_termOf_6 13 rfl rfl)
theorem dX7_termOf_157 : decode cX7_termOf 157 = .ok (.lload 5, 2) := dk_22 5 (dk_at dksX7_termOf_6 14 rfl rfl)
theorem dX7_termOf_159 : decode cX7_termOf 159 = .ok (.lrem, 1) := dk_113 (dk_at dksX7_termOf_6 16 rfl rfl)
theorem dX7_termOf_160 : decode cX7_termOf 160 = .ok (.iload_n 1, 1) := dk_27 (dk_at dksX7_termOf_6 17 rfl rfl)
theorem dX7_termOf_161 : decode cX7_termOf 161 = .ok (.invokevirtual 311, 3) := dk_182 1 55 (dk_at dksX7_termOf_6 18 rfl rfl)
theorem dX7_termOf_164 : decode cX7_termOf 164 = .ok (.lstore_n 2, 1) := dk_65 (dk_at dksX7_termOf_6 21 rfl rfl)
theorem dX7_termOf_165 : decode cX7_termOf 165 = .ok (.goto (-159), 3) := dk_167 255 97 (dk_at dksX7_termOf_7 0 rfl rfl)
theorem dX7_termOf_168 : decode cX7_termOf 168 = .ok (.lload_n 2, 1) := dk_32 (dk_at dksX7_termOf_7 3 rfl rfl)
theorem dX7_termOf_169 : decode cX7_termOf 169 = .ok (.lreturn, 1) := dk_173 (dk_at dksX7_termOf_7 4 rfl rfl)
abbrev cX7_partOf : ByteArray := prog_32_method_63_code
def yX7_partOf : MethodName := ⟨RX7, "partOf", "(Z)J"⟩
def dkwX7_partOf_6 : List UInt8 := [182, 1, 71, 133, 167, 0, 13, 42, 180, 0, 73, 28, 16, 7, 100, 46, 133, 173]
abbrev dktX7_partOf_6 : List UInt8 := dkwX7_partOf_6 ++ []
def dkwX7_partOf_5 : List UInt8 := [17, 12, 123, 42, 180, 1, 38, 96, 4, 100, 46, 133, 173, 42, 180, 1, 68, 153, 0, 13, 42, 28, 29]
abbrev dktX7_partOf_5 : List UInt8 := dkwX7_partOf_5 ++ dktX7_partOf_6
def dkwX7_partOf_4 : List UInt8 := [153, 0, 10, 42, 180, 1, 48, 153, 0, 5, 9, 173, 28, 16, 50, 160, 0, 20, 42, 180, 0, 28]
abbrev dktX7_partOf_4 : List UInt8 := dkwX7_partOf_4 ++ dktX7_partOf_5
def dkwX7_partOf_3 : List UInt8 := [180, 0, 28, 17, 12, 123, 42, 180, 1, 38, 96, 46, 62, 42, 89, 180, 1, 38, 4, 96, 181, 1, 38, 27]
abbrev dktX7_partOf_3 : List UInt8 := dkwX7_partOf_3 ++ dktX7_partOf_4
def dkwX7_partOf_2 : List UInt8 := [181, 1, 38, 42, 180, 1, 68, 153, 0, 39, 28, 16, 15, 159, 0, 9, 28, 16, 16, 160, 0, 27, 42]
abbrev dktX7_partOf_2 : List UInt8 := dkwX7_partOf_2 ++ dktX7_partOf_3
def dkwX7_partOf_1 : List UInt8 := [96, 181, 1, 38, 32, 173, 42, 42, 180, 1, 38, 182, 1, 41, 61, 3, 62, 42, 89, 180, 1, 38, 4, 96]
abbrev dktX7_partOf_1 : List UInt8 := dkwX7_partOf_1 ++ dktX7_partOf_2
def dkwX7_partOf_0 : List UInt8 := [42, 16, 91, 184, 0, 253, 182, 1, 62, 153, 0, 21, 42, 27, 182, 1, 65, 65, 42, 89, 180, 1, 38, 4]
abbrev dktX7_partOf_0 : List UInt8 := dkwX7_partOf_0 ++ dktX7_partOf_1
theorem dksX7_partOf_0 : cX7_partOf.data.toList.drop 0 = dktX7_partOf_0 := by decide +kernel
theorem dksX7_partOf_1 : cX7_partOf.data.toList.drop 24 = dktX7_partOf_1 := dk_seg dksX7_partOf_0 24 rfl rfl
theorem dksX7_partOf_2 : cX7_partOf.data.toList.drop 48 = dktX7_partOf_2 := dk_seg dksX7_partOf_1 24 rfl rfl
theorem dksX7_partOf_3 : cX7_partOf.data.toList.drop 71 = dktX7_partOf_3 := dk_seg dksX7_partOf_2 23 rfl rfl
theorem dksX7_partOf_4 : cX7_partOf.data.toList.drop 95 = dktX7_partOf_4 := dk_seg dksX7_partOf_3 24 rfl rfl
theorem dksX7_partOf_5 : cX7_partOf.data.toList.drop 117 = dktX7_partOf_5 := dk_seg dksX7_partOf_4 22 rfl rfl
theorem dksX7_partOf_6 : cX7_partOf.data.toList.drop 140 = dktX7_partOf_6 := dk_seg dksX7_partOf_5 23 rfl rfl
theorem dX7_partOf_0 : decode cX7_partOf 0 = .ok (.aload_n 0, 1) := dk_42 (dk_at dksX7_partOf_0 0 rfl rfl)
theorem dX7_partOf_1 : decode cX7_partOf 1 = .ok (.bipush 91, 2) := dk_16 91 (dk_at dksX7_partOf_0 1 rfl rfl)
theorem dX7_partOf_3 : decode cX7_partOf 3 = .ok (.invokestatic 253, 3) := dk_184 0 253 (dk_at dksX7_partOf_0 3 rfl rfl)
theorem dX7_partOf_6 : decode cX7_partOf 6 = .ok (.invokevirtual 318, 3) := dk_182 1 62 (dk_at dksX7_partOf_0 6 rfl rfl)
theorem dX7_partOf_9 : decode cX7_partOf 9 = .ok (.ifCond .eq 21, 3) := dk_153 0 21 (dk_at dksX7_partOf_0 9 rfl rfl)
theorem dX7_partOf_12 : decode cX7_partOf 12 = .ok (.aload_n 0, 1) := dk_42 (dk_at dksX7_partOf_0 12 rfl rfl)
theorem dX7_partOf_13 : decode cX7_partOf 13 = .ok (.iload_n 1, 1) := dk_27 (dk_at dksX7_partOf_0 13 rfl rfl)
theorem dX7_partOf_14 : decode cX7_partOf 14 = .ok (.invokevirtual 321, 3) := dk_182 1 65 (dk_at dksX7_partOf_0 14 rfl rfl)
theorem dX7_partOf_17 : decode cX7_partOf 17 = .ok (.lstore_n 2, 1) := dk_65 (dk_at dksX7_partOf_0 17 rfl rfl)
theorem dX7_partOf_18 : decode cX7_partOf 18 = .ok (.aload_n 0, 1) := dk_42 (dk_at dksX7_partOf_0 18 rfl rfl)
theorem dX7_partOf_19 : decode cX7_partOf 19 = .ok (.dup, 1) := dk_89 (dk_at dksX7_partOf_0 19 rfl rfl)
theorem dX7_partOf_20 : decode cX7_partOf 20 = .ok (.getfield 294, 3) := dk_180 1 38 (dk_at dksX7_partOf_0 20 rfl rfl)
theorem dX7_partOf_23 : decode cX7_partOf 23 = .ok (.iconst 1, 1) := dk_4 (dk_at dksX7_partOf_0 23 rfl rfl)
theorem dX7_partOf_24 : decode cX7_partOf 24 = .ok (.iadd, 1) := dk_96 (dk_at dksX7_partOf_1 0 rfl rfl)
theorem dX7_partOf_25 : decode cX7_partOf 25 = .ok (.putfield 294, 3) := dk_181 1 38 (dk_at dksX7_partOf_1 1 rfl rfl)
theorem dX7_partOf_28 : decode cX7_partOf 28 = .ok (.lload_n 2, 1) := dk_32 (dk_at dksX7_partOf_1 4 rfl rfl)
theorem dX7_partOf_29 : decode cX7_partOf 29 = .ok (.lreturn, 1) := dk_173 (dk_at dksX7_partOf_1 5 rfl rfl)
theorem dX7_partOf_30 : decode cX7_partOf 30 = .ok (.aload_n 0, 1) := dk_42 (dk_at dksX7_partOf_1 6 rfl rfl)
theorem dX7_partOf_31 : decode cX7_partOf 31 = .ok (.aload_n 0, 1) := dk_42 (dk_at dksX7_partOf_1 7 rfl rfl)
theorem dX7_partOf_32 : decode cX7_partOf 32 = .ok (.getfield 294, 3) := dk_180 1 38 (dk_at dksX7_partOf_1 8 rfl rfl)
theorem dX7_partOf_35 : decode cX7_partOf 35 = .ok (.invokevirtual 297, 3) := dk_182 1 41 (dk_at dksX7_partOf_1 11 rfl rfl)
theorem dX7_partOf_38 : decode cX7_partOf 38 = .ok (.istore_n 2, 1) := dk_61 (dk_at dksX7_partOf_1 14 rfl rfl)
theorem dX7_partOf_39 : decode cX7_partOf 39 = .ok (.iconst 0, 1) := dk_3 (dk_at dksX7_partOf_1 15 rfl rfl)
theorem dX7_partOf_40 : decode cX7_partOf 40 = .ok (.istore_n 3, 1) := dk_62 (dk_at dksX7_partOf_1 16 rfl rfl)
theorem dX7_partOf_41 : decode cX7_partOf 41 = .ok (.aload_n 0, 1) := dk_42 (dk_at dksX7_partOf_1 17 rfl rfl)
theorem dX7_partOf_42 : decode cX7_partOf 42 = .ok (.dup, 1) := dk_89 (dk_at dksX7_partOf_1 18 rfl rfl)
theorem dX7_partOf_43 : decode cX7_partOf 43 = .ok (.getfield 294, 3) := dk_180 1 38 (dk_at dksX7_partOf_1 19 rfl rfl)
theorem dX7_partOf_46 : decode cX7_partOf 46 = .ok (.iconst 1, 1) := dk_4 (dk_at dksX7_partOf_1 22 rfl rfl)
theorem dX7_partOf_47 : decode cX7_partOf 47 = .ok (.iadd, 1) := dk_96 (dk_at dksX7_partOf_1 23 rfl rfl)
theorem dX7_partOf_48 : decode cX7_partOf 48 = .ok (.putfield 294, 3) := dk_181 1 38 (dk_at dksX7_partOf_2 0 rfl rfl)
theorem dX7_partOf_51 : decode cX7_partOf 51 = .ok (.aload_n 0, 1) := dk_42 (dk_at dksX7_partOf_2 3 rfl rfl)
theorem dX7_partOf_52 : decode cX7_partOf 52 = .ok (.getfield 324, 3) := dk_180 1 68 (dk_at dksX7_partOf_2 4 rfl rfl)
theorem dX7_partOf_55 : decode cX7_partOf 55 = .ok (.ifCond .eq 39, 3) := dk_153 0 39 (dk_at dksX7_partOf_2 7 rfl rfl)
theorem dX7_partOf_58 : decode cX7_partOf 58 = .ok (.iload_n 2, 1) := dk_28 (dk_at dksX7_partOf_2 10 rfl rfl)
theorem dX7_partOf_59 : decode cX7_partOf 59 = .ok (.bipush 15, 2) := dk_16 15 (dk_at dksX7_partOf_2 11 rfl rfl)
theorem dX7_partOf_61 : decode cX7_partOf 61 = .ok (.if_icmp .eq 9, 3) := dk_159 0 9 (dk_at dksX7_partOf_2 13 rfl rfl)
theorem dX7_partOf_64 : decode cX7_partOf 64 = .ok (.iload_n 2, 1) := dk_28 (dk_at dksX7_partOf_2 16 rfl rfl)
theorem dX7_partOf_65 : decode cX7_partOf 65 = .ok (.bipush 16, 2) := dk_16 16 (dk_at dksX7_partOf_2 17 rfl rfl)
theorem dX7_partOf_67 : decode cX7_partOf 67 = .ok (.if_icmp .ne 27, 3) := dk_160 0 27 (dk_at dksX7_partOf_2 19 rfl rfl)
theorem dX7_partOf_70 : decode cX7_partOf 70 = .ok (.aload_n 0, 1) := dk_42 (dk_at dksX7_partOf_2 22 rfl rfl)
theorem dX7_partOf_71 : decode cX7_partOf 71 = .ok (.getfield 28, 3) := dk_180 0 28 (dk_at dksX7_partOf_3 0 rfl rfl)
theorem dX7_partOf_74 : decode cX7_partOf 74 = .ok (.sipush 3195, 3) := dk_17 12 123 (dk_at dksX7_partOf_3 3 rfl rfl)
theorem dX7_partOf_77 : decode cX7_partOf 77 = .ok (.aload_n 0, 1) := dk_42 (dk_at dksX7_partOf_3 6 rfl rfl)
theorem dX7_partOf_78 : decode cX7_partOf 78 = .ok (.getfield 294, 3) := dk_180 1 38 (dk_at dksX7_partOf_3 7 rfl rfl)
theorem dX7_partOf_81 : decode cX7_partOf 81 = .ok (.iadd, 1) := dk_96 (dk_at dksX7_partOf_3 10 rfl rfl)
theorem dX7_partOf_82 : decode cX7_partOf 82 = .ok (.iaload, 1) := dk_46 (dk_at dksX7_partOf_3 11 rfl rfl)
theorem dX7_partOf_83 : decode cX7_partOf 83 = .ok (.istore_n 3, 1) := dk_62 (dk_at dksX7_partOf_3 12 rfl rfl)
theorem dX7_partOf_84 : decode cX7_partOf 84 = .ok (.aload_n 0, 1) := dk_42 (dk_at dksX7_partOf_3 13 rfl rfl)
theorem dX7_partOf_85 : decode cX7_partOf 85 = .ok (.dup, 1) := dk_89 (dk_at dksX7_partOf_3 14 rfl rfl)
theorem dX7_partOf_86 : decode cX7_partOf 86 = .ok (.getfield 294, 3) := dk_180 1 38 (dk_at dksX7_partOf_3 15 rfl rfl)
theorem dX7_partOf_89 : decode cX7_partOf 89 = .ok (.iconst 1, 1) := dk_4 (dk_at dksX7_partOf_3 18 rfl rfl)
theorem dX7_partOf_90 : decode cX7_partOf 90 = .ok (.iadd, 1) := dk_96 (dk_at dksX7_partOf_3 19 rfl rfl)
theorem dX7_partOf_91 : decode cX7_partOf 91 = .ok (.putfield 294, 3) := dk_181 1 38 (dk_at dksX7_partOf_3 20 rfl rfl)
theorem dX7_partOf_94 : decode cX7_partOf 94 = .ok (.iload_n 1, 1) := dk_27 (dk_at dksX7_partOf_3 23 rfl rfl)
theorem dX7_partOf_95 : decode cX7_partOf 95 = .ok (.ifCond .eq 10, 3) := dk_153 0 10 (dk_at dksX7_partOf_4 0 rfl rfl)
theorem dX7_partOf_98 : decode cX7_partOf 98 = .ok (.aload_n 0, 1) := dk_42 (dk_at dksX7_partOf_4 3 rfl rfl)
theorem dX7_partOf_99 : decode cX7_partOf 99 = .ok (.getfield 304, 3) := dk_180 1 48 (dk_at dksX7_partOf_4 4 rfl rfl)
theorem dX7_partOf_102 : decode cX7_partOf 102 = .ok (.ifCond .eq 5, 3) := dk_153 0 5 (dk_at dksX7_partOf_4 7 rfl rfl)
theorem dX7_partOf_105 : decode cX7_partOf 105 = .ok (.lconst 0, 1) := dk_9 (dk_at dksX7_partOf_4 10 rfl rfl)
theorem dX7_partOf_106 : decode cX7_partOf 106 = .ok (.lreturn, 1) := dk_173 (dk_at dksX7_partOf_4 11 rfl rfl)
theorem dX7_partOf_107 : decode cX7_partOf 107 = .ok (.iload_n 2, 1) := dk_28 (dk_at dksX7_partOf_4 12 rfl rfl)
theorem dX7_partOf_108 : decode cX7_partOf 108 = .ok (.bipush 50, 2) := dk_16 50 (dk_at dksX7_partOf_4 13 rfl rfl)
theorem dX7_partOf_110 : decode cX7_partOf 110 = .ok (.if_icmp .ne 20, 3) := dk_160 0 20 (dk_at dksX7_partOf_4 15 rfl rfl)
theorem dX7_partOf_113 : decode cX7_partOf 113 = .ok (.aload_n 0, 1) := dk_42 (dk_at dksX7_partOf_4 18 rfl rfl)
theorem dX7_partOf_114 : decode cX7_partOf 114 = .ok (.getfield 28, 3) := dk_180 0 28 (dk_at dksX7_partOf_4 19 rfl rfl)
theorem dX7_partOf_117 : decode cX7_partOf 117 = .ok (.sipush 3195, 3) := dk_17 12 123 (dk_at dksX7_partOf_5 0 rfl rfl)
theorem dX7_partOf_120 : decode cX7_partOf 120 = .ok (.aload_n 0, 1) := dk_42 (dk_at dksX7_partOf_5 3 rfl rfl)
theorem dX7_partOf_121 : decode cX7_partOf 121 = .ok (.getfield 294, 3) := dk_180 1 38 (dk_at dksX7_partOf_5 4 rfl rfl)
theorem dX7_partOf_124 : decode cX7_partOf 124 = .ok (.iadd, 1) := dk_96 (dk_at dksX7_partOf_5 7 rfl rfl)
theorem dX7_partOf_125 : decode cX7_partOf 125 = .ok (.iconst 1, 1) := dk_4 (dk_at dksX7_partOf_5 8 rfl rfl)
theorem dX7_partOf_126 : decode cX7_partOf 126 = .ok (.isub, 1) := dk_100 (dk_at dksX7_partOf_5 9 rfl rfl)
theorem dX7_partOf_127 : decode cX7_partOf 127 = .ok (.iaload, 1) := dk_46 (dk_at dksX7_partOf_5 10 rfl rfl)
theorem dX7_partOf_128 : decode cX7_partOf 128 = .ok (.i2l, 1) := dk_133 (dk_at dksX7_partOf_5 11 rfl rfl)
theorem dX7_partOf_129 : decode cX7_partOf 129 = .ok (.lreturn, 1) := dk_173 (dk_at dksX7_partOf_5 12 rfl rfl)
theorem dX7_partOf_130 : decode cX7_partOf 130 = .ok (.aload_n 0, 1) := dk_42 (dk_at dksX7_partOf_5 13 rfl rfl)
theorem dX7_partOf_131 : decode cX7_partOf 131 = .ok (.getfield 324, 3) := dk_180 1 68 (dk_at dksX7_partOf_5 14 rfl rfl)
theorem dX7_partOf_134 : decode cX7_partOf 134 = .ok (.ifCond .eq 13, 3) := dk_153 0 13 (dk_at dksX7_partOf_5 17 rfl rfl)
theorem dX7_partOf_137 : decode cX7_partOf 137 = .ok (.aload_n 0, 1) := dk_42 (dk_at dksX7_partOf_5 20 rfl rfl)
theorem dX7_partOf_138 : decode cX7_partOf 138 = .ok (.iload_n 2, 1) := dk_28 (dk_at dksX7_partOf_5 21 rfl rfl)
theorem dX7_partOf_139 : decode cX7_partOf 139 = .ok (.iload_n 3, 1) := dk_29 (dk_at dksX7_partOf_5 22 rfl rfl)
theorem dX7_partOf_140 : decode cX7_partOf 140 = .ok (.invokevirtual 327, 3) := dk_182 1 71 (dk_at dksX7_partOf_6 0 rfl rfl)
theorem dX7_partOf_143 : decode cX7_partOf 143 = .ok (.i2l, 1) := dk_133 (dk_at dksX7_partOf_6 3 rfl rfl)
theorem dX7_partOf_144 : decode cX7_partOf 144 = .ok (.goto 13, 3) := dk_167 0 13 (dk_at dksX7_partOf_6 4 rfl rfl)
theorem dX7_partOf_147 : decode cX7_partOf 147 = .ok (.aload_n 0, 1) := dk_42 (dk_at dksX7_partOf_6 7 rfl rfl)
theorem dX7_partOf_148 : decode cX7_partOf 148 = .ok (.getfield 73, 3) := dk_180 0 73 (dk_at dksX7_partOf_6 8 rfl rfl)
theorem dX7_partOf_151 : decode cX7_partOf 151 = .ok (.iload_n 2, 1) := dk_28 (dk_at dksX7_partOf_6 11 rfl rfl)
theorem dX7_partOf_152 : decode cX7_partOf 152 = .ok (.bipush 7, 2) := dk_16 7 (dk_at dksX7_partOf_6 12 rfl rfl)
theorem dX7_partOf_154 : decode cX7_partOf 154 = .ok (.isub, 1) := dk_100 (dk_at dksX7_partOf_6 14 rfl rfl)
theorem dX7_partOf_155 : decode cX7_partOf 155 = .ok (.iaload, 1) := dk_46 (dk_at dksX7_partOf_6 15 rfl rfl)
theorem dX7_partOf_156 : decode cX7_partOf 156 = .ok (.i2l, 1) := dk_133 (dk_at dksX7_partOf_6 16 rfl rfl)
theorem dX7_partOf_157 : decode cX7_partOf 157 = .ok (.lreturn, 1) := dk_173 (dk_at dksX7_partOf_6 17 rfl rfl)
abbrev cX7_signOf : ByteArray := prog_32_method_38_code
def yX7_signOf : MethodName := ⟨RX7, "signOf", "(C)I"⟩
def dkwX7_signOf_0 : List UInt8 := [16, 100, 26, 96, 172]
abbrev dktX7_signOf_0 : List UInt8 := dkwX7_signOf_0 ++ []
theorem dksX7_signOf_0 : cX7_signOf.data.toList.drop 0 = dktX7_signOf_0 := by decide +kernel
theorem dX7_signOf_0 : decode cX7_signOf 0 = .ok (.bipush 100, 2) := dk_16 100 (dk_at dksX7_signOf_0 0 rfl rfl)
theorem dX7_signOf_2 : decode cX7_signOf 2 = .ok (.iload_n 0, 1) := dk_26 (dk_at dksX7_signOf_0 2 rfl rfl)
theorem dX7_signOf_3 : decode cX7_signOf 3 = .ok (.iadd, 1) := dk_96 (dk_at dksX7_signOf_0 3 rfl rfl)
theorem dX7_signOf_4 : decode cX7_signOf 4 = .ok (.ireturn, 1) := dk_172 (dk_at dksX7_signOf_0 4 rfl rfl)
abbrev cX7_passes0 : ByteArray := prog_32_method_59_code
def yX7_passes0 : MethodName := ⟨RX7, "passes0", "(I)Z"⟩
def dkwX7_passes0_1 : List UInt8 := [180, 1, 38, 4, 96, 181, 1, 38, 28, 172]
abbrev dktX7_passes0_1 : List UInt8 := dkwX7_passes0_1 ++ []
def dkwX7_passes0_0 : List UInt8 := [42, 42, 180, 1, 38, 182, 1, 41, 27, 160, 0, 7, 4, 167, 0, 4, 3, 61, 28, 153, 0, 13, 42, 89]
abbrev dktX7_passes0_0 : List UInt8 := dkwX7_passes0_0 ++ dktX7_passes0_1
theorem dksX7_passes0_0 : cX7_passes0.data.toList.drop 0 = dktX7_passes0_0 := by decide +kernel
theorem dksX7_passes0_1 : cX7_passes0.data.toList.drop 24 = dktX7_passes0_1 := dk_seg dksX7_passes0_0 24 rfl rfl
theorem dX7_passes0_0 : decode cX7_passes0 0 = .ok (.aload_n 0, 1) := dk_42 (dk_at dksX7_passes0_0 0 rfl rfl)
theorem dX7_passes0_1 : decode cX7_passes0 1 = .ok (.aload_n 0, 1) := dk_42 (dk_at dksX7_passes0_0 1 rfl rfl)
theorem dX7_passes0_2 : decode cX7_passes0 2 = .ok (.getfield 294, 3) := dk_180 1 38 (dk_at dksX7_passes0_0 2 rfl rfl)
theorem dX7_passes0_5 : decode cX7_passes0 5 = .ok (.invokevirtual 297, 3) := dk_182 1 41 (dk_at dksX7_passes0_0 5 rfl rfl)
theorem dX7_passes0_8 : decode cX7_passes0 8 = .ok (.iload_n 1, 1) := dk_27 (dk_at dksX7_passes0_0 8 rfl rfl)
theorem dX7_passes0_9 : decode cX7_passes0 9 = .ok (.if_icmp .ne 7, 3) := dk_160 0 7 (dk_at dksX7_passes0_0 9 rfl rfl)
theorem dX7_passes0_12 : decode cX7_passes0 12 = .ok (.iconst 1, 1) := dk_4 (dk_at dksX7_passes0_0 12 rfl rfl)
theorem dX7_passes0_13 : decode cX7_passes0 13 = .ok (.goto 4, 3) := dk_167 0 4 (dk_at dksX7_passes0_0 13 rfl rfl)
theorem dX7_passes0_16 : decode cX7_passes0 16 = .ok (.iconst 0, 1) := dk_3 (dk_at dksX7_passes0_0 16 rfl rfl)
theorem dX7_passes0_17 : decode cX7_passes0 17 = .ok (.istore_n 2, 1) := dk_61 (dk_at dksX7_passes0_0 17 rfl rfl)
theorem dX7_passes0_18 : decode cX7_passes0 18 = .ok (.iload_n 2, 1) := dk_28 (dk_at dksX7_passes0_0 18 rfl rfl)
theorem dX7_passes0_19 : decode cX7_passes0 19 = .ok (.ifCond .eq 13, 3) := dk_153 0 13 (dk_at dksX7_passes0_0 19 rfl rfl)
theorem dX7_passes0_22 : decode cX7_passes0 22 = .ok (.aload_n 0, 1) := dk_42 (dk_at dksX7_passes0_0 22 rfl rfl)
theorem dX7_passes0_23 : decode cX7_passes0 23 = .ok (.dup, 1) := dk_89 (dk_at dksX7_passes0_0 23 rfl rfl)
theorem dX7_passes0_24 : decode cX7_passes0 24 = .ok (.getfield 294, 3) := dk_180 1 38 (dk_at dksX7_passes0_1 0 rfl rfl)
theorem dX7_passes0_27 : decode cX7_passes0 27 = .ok (.iconst 1, 1) := dk_4 (dk_at dksX7_passes0_1 3 rfl rfl)
theorem dX7_passes0_28 : decode cX7_passes0 28 = .ok (.iadd, 1) := dk_96 (dk_at dksX7_passes0_1 4 rfl rfl)
theorem dX7_passes0_29 : decode cX7_passes0 29 = .ok (.putfield 294, 3) := dk_181 1 38 (dk_at dksX7_passes0_1 5 rfl rfl)
theorem dX7_passes0_32 : decode cX7_passes0 32 = .ok (.iload_n 2, 1) := dk_28 (dk_at dksX7_passes0_1 8 rfl rfl)
theorem dX7_passes0_33 : decode cX7_passes0 33 = .ok (.ireturn, 1) := dk_172 (dk_at dksX7_passes0_1 9 rfl rfl)
abbrev cX7_orderValue : ByteArray := prog_32_method_64_code
def yX7_orderValue : MethodName := ⟨RX7, "orderValue", "(II)I"⟩
def dkwX7_orderValue_3 : List UInt8 := [16, 25, 184, 0, 142, 46, 172, 42, 180, 0, 28, 28, 3, 184, 0, 142, 46, 172]
abbrev dktX7_orderValue_3 : List UInt8 := dkwX7_orderValue_3 ++ []
def dkwX7_orderValue_2 : List UInt8 := [42, 180, 0, 28, 17, 1, 112, 46, 172, 42, 180, 1, 74, 172, 42, 180, 1, 77, 172, 42, 180, 0, 28, 28]
abbrev dktX7_orderValue_2 : List UInt8 := dkwX7_orderValue_2 ++ dktX7_orderValue_3
def dkwX7_orderValue_1 : List UInt8 := [170, 0, 0, 0, 0, 0, 62, 0, 0, 0, 12, 0, 0, 0, 15, 0, 0, 0, 31, 0, 0, 0, 40, 0, 0, 0, 45, 0, 0, 0, 50]
abbrev dktX7_orderValue_1 : List UInt8 := dkwX7_orderValue_1 ++ dktX7_orderValue_2
def dkwX7_orderValue_0 : List UInt8 := [27]
abbrev dktX7_orderValue_0 : List UInt8 := dkwX7_orderValue_0 ++ dktX7_orderValue_1
theorem dksX7_orderValue_0 : cX7_orderValue.data.toList.drop 0 = dktX7_orderValue_0 := by decide +kernel
theorem dksX7_orderValue_1 : cX7_orderValue.data.toList.drop 1 = dktX7_orderValue_1 := dk_seg dksX7_orderValue_0 1 rfl rfl
theorem dksX7_orderValue_2 : cX7_orderValue.data.toList.drop 32 = dktX7_orderValue_2 := dk_seg dksX7_orderValue_1 31 rfl rfl
theorem dksX7_orderValue_3 : cX7_orderValue.data.toList.drop 56 = dktX7_orderValue_3 := dk_seg dksX7_orderValue_2 24 rfl rfl
theorem dX7_orderValue_0 : decode cX7_orderValue 0 = .ok (.iload_n 1, 1) := dk_27 (dk_at dksX7_orderValue_0 0 rfl rfl)
theorem dX7_orderValue_1 : decode cX7_orderValue 1 = .ok (.tableswitch 62 12 15 #[31, 40, 45, 50], 31) := by decide +kernel
theorem dX7_orderValue_32 : decode cX7_orderValue 32 = .ok (.aload_n 0, 1) := dk_42 (dk_at dksX7_orderValue_2 0 rfl rfl)
theorem dX7_orderValue_33 : decode cX7_orderValue 33 = .ok (.getfield 28, 3) := dk_180 0 28 (dk_at dksX7_orderValue_2 1 rfl rfl)
theorem dX7_orderValue_36 : decode cX7_orderValue 36 = .ok (.sipush 368, 3) := dk_17 1 112 (dk_at dksX7_orderValue_2 4 rfl rfl)
theorem dX7_orderValue_39 : decode cX7_orderValue 39 = .ok (.iaload, 1) := dk_46 (dk_at dksX7_orderValue_2 7 rfl rfl)
theorem dX7_orderValue_40 : decode cX7_orderValue 40 = .ok (.ireturn, 1) := dk_172 (dk_at dksX7_orderValue_2 8 rfl rfl)
theorem dX7_orderValue_41 : decode cX7_orderValue 41 = .ok (.aload_n 0, 1) := dk_42 (dk_at dksX7_orderValue_2 9 rfl rfl)
theorem dX7_orderValue_42 : decode cX7_orderValue 42 = .ok (.getfield 330, 3) := dk_180 1 74 (dk_at dksX7_orderValue_2 10 rfl rfl)
theorem dX7_orderValue_45 : decode cX7_orderValue 45 = .ok (.ireturn, 1) := dk_172 (dk_at dksX7_orderValue_2 13 rfl rfl)
theorem dX7_orderValue_46 : decode cX7_orderValue 46 = .ok (.aload_n 0, 1) := dk_42 (dk_at dksX7_orderValue_2 14 rfl rfl)
theorem dX7_orderValue_47 : decode cX7_orderValue 47 = .ok (.getfield 333, 3) := dk_180 1 77 (dk_at dksX7_orderValue_2 15 rfl rfl)
theorem dX7_orderValue_50 : decode cX7_orderValue 50 = .ok (.ireturn, 1) := dk_172 (dk_at dksX7_orderValue_2 18 rfl rfl)
theorem dX7_orderValue_51 : decode cX7_orderValue 51 = .ok (.aload_n 0, 1) := dk_42 (dk_at dksX7_orderValue_2 19 rfl rfl)
theorem dX7_orderValue_52 : decode cX7_orderValue 52 = .ok (.getfield 28, 3) := dk_180 0 28 (dk_at dksX7_orderValue_2 20 rfl rfl)
theorem dX7_orderValue_55 : decode cX7_orderValue 55 = .ok (.iload_n 2, 1) := dk_28 (dk_at dksX7_orderValue_2 23 rfl rfl)
theorem dX7_orderValue_56 : decode cX7_orderValue 56 = .ok (.bipush 25, 2) := dk_16 25 (dk_at dksX7_orderValue_3 0 rfl rfl)
theorem dX7_orderValue_58 : decode cX7_orderValue 58 = .ok (.invokestatic 142, 3) := dk_184 0 142 (dk_at dksX7_orderValue_3 2 rfl rfl)
theorem dX7_orderValue_61 : decode cX7_orderValue 61 = .ok (.iaload, 1) := dk_46 (dk_at dksX7_orderValue_3 5 rfl rfl)
theorem dX7_orderValue_62 : decode cX7_orderValue 62 = .ok (.ireturn, 1) := dk_172 (dk_at dksX7_orderValue_3 6 rfl rfl)
theorem dX7_orderValue_63 : decode cX7_orderValue 63 = .ok (.aload_n 0, 1) := dk_42 (dk_at dksX7_orderValue_3 7 rfl rfl)
theorem dX7_orderValue_64 : decode cX7_orderValue 64 = .ok (.getfield 28, 3) := dk_180 0 28 (dk_at dksX7_orderValue_3 8 rfl rfl)
theorem dX7_orderValue_67 : decode cX7_orderValue 67 = .ok (.iload_n 2, 1) := dk_28 (dk_at dksX7_orderValue_3 11 rfl rfl)
theorem dX7_orderValue_68 : decode cX7_orderValue 68 = .ok (.iconst 0, 1) := dk_3 (dk_at dksX7_orderValue_3 12 rfl rfl)
theorem dX7_orderValue_69 : decode cX7_orderValue 69 = .ok (.invokestatic 142, 3) := dk_184 0 142 (dk_at dksX7_orderValue_3 13 rfl rfl)
theorem dX7_orderValue_72 : decode cX7_orderValue 72 = .ok (.iaload, 1) := dk_46 (dk_at dksX7_orderValue_3 16 rfl rfl)
theorem dX7_orderValue_73 : decode cX7_orderValue 73 = .ok (.ireturn, 1) := dk_172 (dk_at dksX7_orderValue_3 17 rfl rfl)
abbrev cX7_bounded : ByteArray := prog_32_method_60_code
def yX7_bounded : MethodName := ⟨RX7, "bounded", "(JZ)J"⟩
def dkwX7_bounded_1 : List UInt8 := [181, 1, 48, 42, 180, 1, 48, 153, 0, 7, 9, 167, 0, 4, 31, 173]
abbrev dktX7_bounded_1 : List UInt8 := dkwX7_bounded_1 ++ []
def dkwX7_bounded_0 : List UInt8 := [29, 153, 0, 24, 31, 20, 1, 44, 148, 157, 0, 11, 31, 20, 1, 46, 148, 156, 0, 8, 42, 4]
abbrev dktX7_bounded_0 : List UInt8 := dkwX7_bounded_0 ++ dktX7_bounded_1
theorem dksX7_bounded_0 : cX7_bounded.data.toList.drop 0 = dktX7_bounded_0 := by decide +kernel
theorem dksX7_bounded_1 : cX7_bounded.data.toList.drop 22 = dktX7_bounded_1 := dk_seg dksX7_bounded_0 22 rfl rfl
theorem dX7_bounded_0 : decode cX7_bounded 0 = .ok (.iload_n 3, 1) := dk_29 (dk_at dksX7_bounded_0 0 rfl rfl)
theorem dX7_bounded_1 : decode cX7_bounded 1 = .ok (.ifCond .eq 24, 3) := dk_153 0 24 (dk_at dksX7_bounded_0 1 rfl rfl)
theorem dX7_bounded_4 : decode cX7_bounded 4 = .ok (.lload_n 1, 1) := dk_31 (dk_at dksX7_bounded_0 4 rfl rfl)
theorem dX7_bounded_5 : decode cX7_bounded 5 = .ok (.ldc2_w 300, 3) := dk_20 1 44 (dk_at dksX7_bounded_0 5 rfl rfl)
theorem dX7_bounded_8 : decode cX7_bounded 8 = .ok (.lcmp, 1) := dk_148 (dk_at dksX7_bounded_0 8 rfl rfl)
theorem dX7_bounded_9 : decode cX7_bounded 9 = .ok (.ifCond .gt 11, 3) := dk_157 0 11 (dk_at dksX7_bounded_0 9 rfl rfl)
theorem dX7_bounded_12 : decode cX7_bounded 12 = .ok (.lload_n 1, 1) := dk_31 (dk_at dksX7_bounded_0 12 rfl rfl)
theorem dX7_bounded_13 : decode cX7_bounded 13 = .ok (.ldc2_w 302, 3) := dk_20 1 46 (dk_at dksX7_bounded_0 13 rfl rfl)
theorem dX7_bounded_16 : decode cX7_bounded 16 = .ok (.lcmp, 1) := dk_148 (dk_at dksX7_bounded_0 16 rfl rfl)
theorem dX7_bounded_17 : decode cX7_bounded 17 = .ok (.ifCond .ge 8, 3) := dk_156 0 8 (dk_at dksX7_bounded_0 17 rfl rfl)
theorem dX7_bounded_20 : decode cX7_bounded 20 = .ok (.aload_n 0, 1) := dk_42 (dk_at dksX7_bounded_0 20 rfl rfl)
theorem dX7_bounded_21 : decode cX7_bounded 21 = .ok (.iconst 1, 1) := dk_4 (dk_at dksX7_bounded_0 21 rfl rfl)
theorem dX7_bounded_22 : decode cX7_bounded 22 = .ok (.putfield 304, 3) := dk_181 1 48 (dk_at dksX7_bounded_1 0 rfl rfl)
theorem dX7_bounded_25 : decode cX7_bounded 25 = .ok (.aload_n 0, 1) := dk_42 (dk_at dksX7_bounded_1 3 rfl rfl)
theorem dX7_bounded_26 : decode cX7_bounded 26 = .ok (.getfield 304, 3) := dk_180 1 48 (dk_at dksX7_bounded_1 4 rfl rfl)
theorem dX7_bounded_29 : decode cX7_bounded 29 = .ok (.ifCond .eq 7, 3) := dk_153 0 7 (dk_at dksX7_bounded_1 7 rfl rfl)
theorem dX7_bounded_32 : decode cX7_bounded 32 = .ok (.lconst 0, 1) := dk_9 (dk_at dksX7_bounded_1 10 rfl rfl)
theorem dX7_bounded_33 : decode cX7_bounded 33 = .ok (.goto 4, 3) := dk_167 0 4 (dk_at dksX7_bounded_1 11 rfl rfl)
theorem dX7_bounded_36 : decode cX7_bounded 36 = .ok (.lload_n 1, 1) := dk_31 (dk_at dksX7_bounded_1 14 rfl rfl)
theorem dX7_bounded_37 : decode cX7_bounded 37 = .ok (.lreturn, 1) := dk_173 (dk_at dksX7_bounded_1 15 rfl rfl)
abbrev cX7_testOf : ByteArray := prog_32_method_65_code
def yX7_testOf : MethodName := ⟨RX7, "testOf", "(Z)Z"⟩
def dkwX7_testOf_2 : List UInt8 := [167, 255, 216, 28, 172]
abbrev dktX7_testOf_2 : List UInt8 := dkwX7_testOf_2 ++ []
def dkwX7_testOf_1 : List UInt8 := [167, 0, 4, 3, 182, 1, 80, 62, 28, 154, 0, 7, 29, 153, 0, 7, 4, 167, 0, 4, 3, 61]
abbrev dktX7_testOf_1 : List UInt8 := dkwX7_testOf_1 ++ dktX7_testOf_2
def dkwX7_testOf_0 : List UInt8 := [42, 27, 182, 1, 80, 61, 42, 7, 182, 1, 62, 153, 0, 38, 42, 27, 153, 0, 11, 28, 154, 0, 7, 4]
abbrev dktX7_testOf_0 : List UInt8 := dkwX7_testOf_0 ++ dktX7_testOf_1
theorem dksX7_testOf_0 : cX7_testOf.data.toList.drop 0 = dktX7_testOf_0 := by decide +kernel
theorem dksX7_testOf_1 : cX7_testOf.data.toList.drop 24 = dktX7_testOf_1 := dk_seg dksX7_testOf_0 24 rfl rfl
theorem dksX7_testOf_2 : cX7_testOf.data.toList.drop 46 = dktX7_testOf_2 := dk_seg dksX7_testOf_1 22 rfl rfl
theorem dX7_testOf_0 : decode cX7_testOf 0 = .ok (.aload_n 0, 1) := dk_42 (dk_at dksX7_testOf_0 0 rfl rfl)
theorem dX7_testOf_1 : decode cX7_testOf 1 = .ok (.iload_n 1, 1) := dk_27 (dk_at dksX7_testOf_0 1 rfl rfl)
theorem dX7_testOf_2 : decode cX7_testOf 2 = .ok (.invokevirtual 336, 3) := dk_182 1 80 (dk_at dksX7_testOf_0 2 rfl rfl)
theorem dX7_testOf_5 : decode cX7_testOf 5 = .ok (.istore_n 2, 1) := dk_61 (dk_at dksX7_testOf_0 5 rfl rfl)
theorem dX7_testOf_6 : decode cX7_testOf 6 = .ok (.aload_n 0, 1) := dk_42 (dk_at dksX7_testOf_0 6 rfl rfl)
theorem dX7_testOf_7 : decode cX7_testOf 7 = .ok (.iconst 4, 1) := dk_7 (dk_at dksX7_testOf_0 7 rfl rfl)
theorem dX7_testOf_8 : decode cX7_testOf 8 = .ok (.invokevirtual 318, 3) := dk_182 1 62 (dk_at dksX7_testOf_0 8 rfl rfl)
theorem dX7_testOf_11 : decode cX7_testOf 11 = .ok (.ifCond .eq 38, 3) := dk_153 0 38 (dk_at dksX7_testOf_0 11 rfl rfl)
theorem dX7_testOf_14 : decode cX7_testOf 14 = .ok (.aload_n 0, 1) := dk_42 (dk_at dksX7_testOf_0 14 rfl rfl)
theorem dX7_testOf_15 : decode cX7_testOf 15 = .ok (.iload_n 1, 1) := dk_27 (dk_at dksX7_testOf_0 15 rfl rfl)
theorem dX7_testOf_16 : decode cX7_testOf 16 = .ok (.ifCond .eq 11, 3) := dk_153 0 11 (dk_at dksX7_testOf_0 16 rfl rfl)
theorem dX7_testOf_19 : decode cX7_testOf 19 = .ok (.iload_n 2, 1) := dk_28 (dk_at dksX7_testOf_0 19 rfl rfl)
theorem dX7_testOf_20 : decode cX7_testOf 20 = .ok (.ifCond .ne 7, 3) := dk_154 0 7 (dk_at dksX7_testOf_0 20 rfl rfl)
theorem dX7_testOf_23 : decode cX7_testOf 23 = .ok (.iconst 1, 1) := dk_4 (dk_at dksX7_testOf_0 23 rfl rfl)
theorem dX7_testOf_24 : decode cX7_testOf 24 = .ok (.goto 4, 3) := dk_167 0 4 (dk_at dksX7_testOf_1 0 rfl rfl)
theorem dX7_testOf_27 : decode cX7_testOf 27 = .ok (.iconst 0, 1) := dk_3 (dk_at dksX7_testOf_1 3 rfl rfl)
theorem dX7_testOf_28 : decode cX7_testOf 28 = .ok (.invokevirtual 336, 3) := dk_182 1 80 (dk_at dksX7_testOf_1 4 rfl rfl)
theorem dX7_testOf_31 : decode cX7_testOf 31 = .ok (.istore_n 3, 1) := dk_62 (dk_at dksX7_testOf_1 7 rfl rfl)
theorem dX7_testOf_32 : decode cX7_testOf 32 = .ok (.iload_n 2, 1) := dk_28 (dk_at dksX7_testOf_1 8 rfl rfl)
theorem dX7_testOf_33 : decode cX7_testOf 33 = .ok (.ifCond .ne 7, 3) := dk_154 0 7 (dk_at dksX7_testOf_1 9 rfl rfl)
theorem dX7_testOf_36 : decode cX7_testOf 36 = .ok (.iload_n 3, 1) := dk_29 (dk_at dksX7_testOf_1 12 rfl rfl)
theorem dX7_testOf_37 : decode cX7_testOf 37 = .ok (.ifCond .eq 7, 3) := dk_153 0 7 (dk_at dksX7_testOf_1 13 rfl rfl)
theorem dX7_testOf_40 : decode cX7_testOf 40 = .ok (.iconst 1, 1) := dk_4 (dk_at dksX7_testOf_1 16 rfl rfl)
theorem dX7_testOf_41 : decode cX7_testOf 41 = .ok (.goto 4, 3) := dk_167 0 4 (dk_at dksX7_testOf_1 17 rfl rfl)
theorem dX7_testOf_44 : decode cX7_testOf 44 = .ok (.iconst 0, 1) := dk_3 (dk_at dksX7_testOf_1 20 rfl rfl)
theorem dX7_testOf_45 : decode cX7_testOf 45 = .ok (.istore_n 2, 1) := dk_61 (dk_at dksX7_testOf_1 21 rfl rfl)
theorem dX7_testOf_46 : decode cX7_testOf 46 = .ok (.goto (-40), 3) := dk_167 255 216 (dk_at dksX7_testOf_2 0 rfl rfl)
theorem dX7_testOf_49 : decode cX7_testOf 49 = .ok (.iload_n 2, 1) := dk_28 (dk_at dksX7_testOf_2 3 rfl rfl)
theorem dX7_testOf_50 : decode cX7_testOf 50 = .ok (.ireturn, 1) := dk_172 (dk_at dksX7_testOf_2 4 rfl rfl)
abbrev cX7_bothOf : ByteArray := prog_32_method_66_code
def yX7_bothOf : MethodName := ⟨RX7, "bothOf", "(Z)Z"⟩
def dkwX7_bothOf_2 : List UInt8 := [167, 255, 216, 28, 172]
abbrev dktX7_bothOf_2 : List UInt8 := dkwX7_bothOf_2 ++ []
def dkwX7_bothOf_1 : List UInt8 := [167, 0, 4, 3, 182, 1, 83, 62, 28, 153, 0, 11, 29, 153, 0, 7, 4, 167, 0, 4, 3, 61]
abbrev dktX7_bothOf_1 : List UInt8 := dkwX7_bothOf_1 ++ dktX7_bothOf_2
def dkwX7_bothOf_0 : List UInt8 := [42, 27, 182, 1, 83, 61, 42, 8, 182, 1, 62, 153, 0, 38, 42, 27, 153, 0, 11, 28, 153, 0, 7, 4]
abbrev dktX7_bothOf_0 : List UInt8 := dkwX7_bothOf_0 ++ dktX7_bothOf_1
theorem dksX7_bothOf_0 : cX7_bothOf.data.toList.drop 0 = dktX7_bothOf_0 := by decide +kernel
theorem dksX7_bothOf_1 : cX7_bothOf.data.toList.drop 24 = dktX7_bothOf_1 := dk_seg dksX7_bothOf_0 24 rfl rfl
theorem dksX7_bothOf_2 : cX7_bothOf.data.toList.drop 46 = dktX7_bothOf_2 := dk_seg dksX7_bothOf_1 22 rfl rfl
theorem dX7_bothOf_0 : decode cX7_bothOf 0 = .ok (.aload_n 0, 1) := dk_42 (dk_at dksX7_bothOf_0 0 rfl rfl)
theorem dX7_bothOf_1 : decode cX7_bothOf 1 = .ok (.iload_n 1, 1) := dk_27 (dk_at dksX7_bothOf_0 1 rfl rfl)
theorem dX7_bothOf_2 : decode cX7_bothOf 2 = .ok (.invokevirtual 339, 3) := dk_182 1 83 (dk_at dksX7_bothOf_0 2 rfl rfl)
theorem dX7_bothOf_5 : decode cX7_bothOf 5 = .ok (.istore_n 2, 1) := dk_61 (dk_at dksX7_bothOf_0 5 rfl rfl)
theorem dX7_bothOf_6 : decode cX7_bothOf 6 = .ok (.aload_n 0, 1) := dk_42 (dk_at dksX7_bothOf_0 6 rfl rfl)
theorem dX7_bothOf_7 : decode cX7_bothOf 7 = .ok (.iconst 5, 1) := dk_8 (dk_at dksX7_bothOf_0 7 rfl rfl)
theorem dX7_bothOf_8 : decode cX7_bothOf 8 = .ok (.invokevirtual 318, 3) := dk_182 1 62 (dk_at dksX7_bothOf_0 8 rfl rfl)
theorem dX7_bothOf_11 : decode cX7_bothOf 11 = .ok (.ifCond .eq 38, 3) := dk_153 0 38 (dk_at dksX7_bothOf_0 11 rfl rfl)
theorem dX7_bothOf_14 : decode cX7_bothOf 14 = .ok (.aload_n 0, 1) := dk_42 (dk_at dksX7_bothOf_0 14 rfl rfl)
theorem dX7_bothOf_15 : decode cX7_bothOf 15 = .ok (.iload_n 1, 1) := dk_27 (dk_at dksX7_bothOf_0 15 rfl rfl)
theorem dX7_bothOf_16 : decode cX7_bothOf 16 = .ok (.ifCond .eq 11, 3) := dk_153 0 11 (dk_at dksX7_bothOf_0 16 rfl rfl)
theorem dX7_bothOf_19 : decode cX7_bothOf 19 = .ok (.iload_n 2, 1) := dk_28 (dk_at dksX7_bothOf_0 19 rfl rfl)
theorem dX7_bothOf_20 : decode cX7_bothOf 20 = .ok (.ifCond .eq 7, 3) := dk_153 0 7 (dk_at dksX7_bothOf_0 20 rfl rfl)
theorem dX7_bothOf_23 : decode cX7_bothOf 23 = .ok (.iconst 1, 1) := dk_4 (dk_at dksX7_bothOf_0 23 rfl rfl)
theorem dX7_bothOf_24 : decode cX7_bothOf 24 = .ok (.goto 4, 3) := dk_167 0 4 (dk_at dksX7_bothOf_1 0 rfl rfl)
theorem dX7_bothOf_27 : decode cX7_bothOf 27 = .ok (.iconst 0, 1) := dk_3 (dk_at dksX7_bothOf_1 3 rfl rfl)
theorem dX7_bothOf_28 : decode cX7_bothOf 28 = .ok (.invokevirtual 339, 3) := dk_182 1 83 (dk_at dksX7_bothOf_1 4 rfl rfl)
theorem dX7_bothOf_31 : decode cX7_bothOf 31 = .ok (.istore_n 3, 1) := dk_62 (dk_at dksX7_bothOf_1 7 rfl rfl)
theorem dX7_bothOf_32 : decode cX7_bothOf 32 = .ok (.iload_n 2, 1) := dk_28 (dk_at dksX7_bothOf_1 8 rfl rfl)
theorem dX7_bothOf_33 : decode cX7_bothOf 33 = .ok (.ifCond .eq 11, 3) := dk_153 0 11 (dk_at dksX7_bothOf_1 9 rfl rfl)
theorem dX7_bothOf_36 : decode cX7_bothOf 36 = .ok (.iload_n 3, 1) := dk_29 (dk_at dksX7_bothOf_1 12 rfl rfl)
theorem dX7_bothOf_37 : decode cX7_bothOf 37 = .ok (.ifCond .eq 7, 3) := dk_153 0 7 (dk_at dksX7_bothOf_1 13 rfl rfl)
theorem dX7_bothOf_40 : decode cX7_bothOf 40 = .ok (.iconst 1, 1) := dk_4 (dk_at dksX7_bothOf_1 16 rfl rfl)
theorem dX7_bothOf_41 : decode cX7_bothOf 41 = .ok (.goto 4, 3) := dk_167 0 4 (dk_at dksX7_bothOf_1 17 rfl rfl)
theorem dX7_bothOf_44 : decode cX7_bothOf 44 = .ok (.iconst 0, 1) := dk_3 (dk_at dksX7_bothOf_1 20 rfl rfl)
theorem dX7_bothOf_45 : decode cX7_bothOf 45 = .ok (.istore_n 2, 1) := dk_61 (dk_at dksX7_bothOf_1 21 rfl rfl)
theorem dX7_bothOf_46 : decode cX7_bothOf 46 = .ok (.goto (-40), 3) := dk_167 255 216 (dk_at dksX7_bothOf_2 0 rfl rfl)
theorem dX7_bothOf_49 : decode cX7_bothOf 49 = .ok (.iload_n 2, 1) := dk_28 (dk_at dksX7_bothOf_2 3 rfl rfl)
theorem dX7_bothOf_50 : decode cX7_bothOf 50 = .ok (.ireturn, 1) := dk_172 (dk_at dksX7_bothOf_2 4 rfl rfl)
abbrev cX7_plainOf : ByteArray := prog_32_method_67_code
def yX7_plainOf : MethodName := ⟨RX7, "plainOf", "(Z)Z"⟩
def dkwX7_plainOf_1 : List UInt8 := [42, 27, 182, 1, 86, 28, 159, 0, 7, 4, 167, 0, 4, 3, 172]
abbrev dktX7_plainOf_1 : List UInt8 := dkwX7_plainOf_1 ++ []
def dkwX7_plainOf_0 : List UInt8 := [3, 61, 42, 16, 6, 182, 1, 62, 153, 0, 16, 28, 154, 0, 7, 4, 167, 0, 4, 3, 61, 167, 255, 237]
abbrev dktX7_plainOf_0 : List UInt8 := dkwX7_plainOf_0 ++ dktX7_plainOf_1
theorem dksX7_plainOf_0 : cX7_plainOf.data.toList.drop 0 = dktX7_plainOf_0 := by decide +kernel
theorem dksX7_plainOf_1 : cX7_plainOf.data.toList.drop 24 = dktX7_plainOf_1 := dk_seg dksX7_plainOf_0 24 rfl rfl
theorem dX7_plainOf_0 : decode cX7_plainOf 0 = .ok (.iconst 0, 1) := dk_3 (dk_at dksX7_plainOf_0 0 rfl rfl)
theorem dX7_plainOf_1 : decode cX7_plainOf 1 = .ok (.istore_n 2, 1) := dk_61 (dk_at dksX7_plainOf_0 1 rfl rfl)
theorem dX7_plainOf_2 : decode cX7_plainOf 2 = .ok (.aload_n 0, 1) := dk_42 (dk_at dksX7_plainOf_0 2 rfl rfl)
theorem dX7_plainOf_3 : decode cX7_plainOf 3 = .ok (.bipush 6, 2) := dk_16 6 (dk_at dksX7_plainOf_0 3 rfl rfl)
theorem dX7_plainOf_5 : decode cX7_plainOf 5 = .ok (.invokevirtual 318, 3) := dk_182 1 62 (dk_at dksX7_plainOf_0 5 rfl rfl)
theorem dX7_plainOf_8 : decode cX7_plainOf 8 = .ok (.ifCond .eq 16, 3) := dk_153 0 16 (dk_at dksX7_plainOf_0 8 rfl rfl)
theorem dX7_plainOf_11 : decode cX7_plainOf 11 = .ok (.iload_n 2, 1) := dk_28 (dk_at dksX7_plainOf_0 11 rfl rfl)
theorem dX7_plainOf_12 : decode cX7_plainOf 12 = .ok (.ifCond .ne 7, 3) := dk_154 0 7 (dk_at dksX7_plainOf_0 12 rfl rfl)
theorem dX7_plainOf_15 : decode cX7_plainOf 15 = .ok (.iconst 1, 1) := dk_4 (dk_at dksX7_plainOf_0 15 rfl rfl)
theorem dX7_plainOf_16 : decode cX7_plainOf 16 = .ok (.goto 4, 3) := dk_167 0 4 (dk_at dksX7_plainOf_0 16 rfl rfl)
theorem dX7_plainOf_19 : decode cX7_plainOf 19 = .ok (.iconst 0, 1) := dk_3 (dk_at dksX7_plainOf_0 19 rfl rfl)
theorem dX7_plainOf_20 : decode cX7_plainOf 20 = .ok (.istore_n 2, 1) := dk_61 (dk_at dksX7_plainOf_0 20 rfl rfl)
theorem dX7_plainOf_21 : decode cX7_plainOf 21 = .ok (.goto (-19), 3) := dk_167 255 237 (dk_at dksX7_plainOf_0 21 rfl rfl)
theorem dX7_plainOf_24 : decode cX7_plainOf 24 = .ok (.aload_n 0, 1) := dk_42 (dk_at dksX7_plainOf_1 0 rfl rfl)
theorem dX7_plainOf_25 : decode cX7_plainOf 25 = .ok (.iload_n 1, 1) := dk_27 (dk_at dksX7_plainOf_1 1 rfl rfl)
theorem dX7_plainOf_26 : decode cX7_plainOf 26 = .ok (.invokevirtual 342, 3) := dk_182 1 86 (dk_at dksX7_plainOf_1 2 rfl rfl)
theorem dX7_plainOf_29 : decode cX7_plainOf 29 = .ok (.iload_n 2, 1) := dk_28 (dk_at dksX7_plainOf_1 5 rfl rfl)
theorem dX7_plainOf_30 : decode cX7_plainOf 30 = .ok (.if_icmp .eq 7, 3) := dk_159 0 7 (dk_at dksX7_plainOf_1 6 rfl rfl)
theorem dX7_plainOf_33 : decode cX7_plainOf 33 = .ok (.iconst 1, 1) := dk_4 (dk_at dksX7_plainOf_1 9 rfl rfl)
theorem dX7_plainOf_34 : decode cX7_plainOf 34 = .ok (.goto 4, 3) := dk_167 0 4 (dk_at dksX7_plainOf_1 10 rfl rfl)
theorem dX7_plainOf_37 : decode cX7_plainOf 37 = .ok (.iconst 0, 1) := dk_3 (dk_at dksX7_plainOf_1 13 rfl rfl)
theorem dX7_plainOf_38 : decode cX7_plainOf 38 = .ok (.ireturn, 1) := dk_172 (dk_at dksX7_plainOf_1 14 rfl rfl)
abbrev cX7_positiveOf : ByteArray := prog_32_method_68_code
def yX7_positiveOf : MethodName := ⟨RX7, "positiveOf", "(Z)Z"⟩
def dkwX7_positiveOf_5 : List UInt8 := [154, 0, 7, 4, 167, 0, 4, 3, 172]
abbrev dktX7_positiveOf_5 : List UInt8 := dkwX7_positiveOf_5 ++ []
def dkwX7_positiveOf_4 : List UInt8 := [21, 4, 16, 62, 184, 0, 253, 160, 0, 13, 32, 22, 5, 148, 158, 0, 17, 167, 0, 10, 32, 22, 5, 148]
abbrev dktX7_positiveOf_4 : List UInt8 := dkwX7_positiveOf_4 ++ dktX7_positiveOf_5
def dkwX7_positiveOf_3 : List UInt8 := [154, 0, 54, 21, 4, 16, 60, 184, 0, 253, 160, 0, 13, 32, 22, 5, 148, 156, 0, 37, 167, 0, 30]
abbrev dktX7_positiveOf_3 : List UInt8 := dkwX7_positiveOf_3 ++ dktX7_positiveOf_4
def dkwX7_positiveOf_2 : List UInt8 := [180, 1, 38, 4, 96, 181, 1, 38, 42, 27, 182, 1, 65, 55, 5, 27, 153, 0, 61, 42, 180, 1, 48]
abbrev dktX7_positiveOf_2 : List UInt8 := dkwX7_positiveOf_2 ++ dktX7_positiveOf_3
def dkwX7_positiveOf_1 : List UInt8 := [96, 181, 1, 38, 28, 172, 42, 27, 182, 1, 65, 65, 42, 42, 180, 1, 38, 182, 1, 41, 54, 4, 42, 89]
abbrev dktX7_positiveOf_1 : List UInt8 := dkwX7_positiveOf_1 ++ dktX7_positiveOf_2
def dkwX7_positiveOf_0 : List UInt8 := [42, 16, 40, 184, 0, 253, 182, 1, 62, 153, 0, 21, 42, 27, 182, 1, 89, 61, 42, 89, 180, 1, 38, 4]
abbrev dktX7_positiveOf_0 : List UInt8 := dkwX7_positiveOf_0 ++ dktX7_positiveOf_1
theorem dksX7_positiveOf_0 : cX7_positiveOf.data.toList.drop 0 = dktX7_positiveOf_0 := by decide +kernel
theorem dksX7_positiveOf_1 : cX7_positiveOf.data.toList.drop 24 = dktX7_positiveOf_1 := dk_seg dksX7_positiveOf_0 24 rfl rfl
theorem dksX7_positiveOf_2 : cX7_positiveOf.data.toList.drop 48 = dktX7_positiveOf_2 := dk_seg dksX7_positiveOf_1 24 rfl rfl
theorem dksX7_positiveOf_3 : cX7_positiveOf.data.toList.drop 71 = dktX7_positiveOf_3 := dk_seg dksX7_positiveOf_2 23 rfl rfl
theorem dksX7_positiveOf_4 : cX7_positiveOf.data.toList.drop 94 = dktX7_positiveOf_4 := dk_seg dksX7_positiveOf_3 23 rfl rfl
theorem dksX7_positiveOf_5 : cX7_positiveOf.data.toList.drop 118 = dktX7_positiveOf_5 := dk_seg dksX7_positiveOf_4 24 rfl rfl
theorem dX7_positiveOf_0 : decode cX7_positiveOf 0 = .ok (.aload_n 0, 1) := dk_42 (dk_at dksX7_positiveOf_0 0 rfl rfl)
theorem dX7_positiveOf_1 : decode cX7_positiveOf 1 = .ok (.bipush 40, 2) := dk_16 40 (dk_at dksX7_positiveOf_0 1 rfl rfl)
theorem dX7_positiveOf_3 : decode cX7_positiveOf 3 = .ok (.invokestatic 253, 3) := dk_184 0 253 (dk_at dksX7_positiveOf_0 3 rfl rfl)
theorem dX7_positiveOf_6 : decode cX7_positiveOf 6 = .ok (.invokevirtual 318, 3) := dk_182 1 62 (dk_at dksX7_positiveOf_0 6 rfl rfl)
theorem dX7_positiveOf_9 : decode cX7_positiveOf 9 = .ok (.ifCond .eq 21, 3) := dk_153 0 21 (dk_at dksX7_positiveOf_0 9 rfl rfl)
theorem dX7_positiveOf_12 : decode cX7_positiveOf 12 = .ok (.aload_n 0, 1) := dk_42 (dk_at dksX7_positiveOf_0 12 rfl rfl)
theorem dX7_positiveOf_13 : decode cX7_positiveOf 13 = .ok (.iload_n 1, 1) := dk_27 (dk_at dksX7_positiveOf_0 13 rfl rfl)
theorem dX7_positiveOf_14 : decode cX7_positiveOf 14 = .ok (.invokevirtual 345, 3) := dk_182 1 89 (dk_at dksX7_positiveOf_0 14 rfl rfl)
theorem dX7_positiveOf_17 : decode cX7_positiveOf 17 = .ok (.istore_n 2, 1) := dk_61 (dk_at dksX7_positiveOf_0 17 rfl rfl)
theorem dX7_positiveOf_18 : decode cX7_positiveOf 18 = .ok (.aload_n 0, 1) := dk_42 (dk_at dksX7_positiveOf_0 18 rfl rfl)
theorem dX7_positiveOf_19 : decode cX7_positiveOf 19 = .ok (.dup, 1) := dk_89 (dk_at dksX7_positiveOf_0 19 rfl rfl)
theorem dX7_positiveOf_20 : decode cX7_positiveOf 20 = .ok (.getfield 294, 3) := dk_180 1 38 (dk_at dksX7_positiveOf_0 20 rfl rfl)
theorem dX7_positiveOf_23 : decode cX7_positiveOf 23 = .ok (.iconst 1, 1) := dk_4 (dk_at dksX7_positiveOf_0 23 rfl rfl)
theorem dX7_positiveOf_24 : decode cX7_positiveOf 24 = .ok (.iadd, 1) := dk_96 (dk_at dksX7_positiveOf_1 0 rfl rfl)
theorem dX7_positiveOf_25 : decode cX7_positiveOf 25 = .ok (.putfield 294, 3) := dk_181 1 38 (dk_at dksX7_positiveOf_1 1 rfl rfl)
theorem dX7_positiveOf_28 : decode cX7_positiveOf 28 = .ok (.iload_n 2, 1) := dk_28 (dk_at dksX7_positiveOf_1 4 rfl rfl)
theorem dX7_positiveOf_29 : decode cX7_positiveOf 29 = .ok (.ireturn, 1) := dk_172 (dk_at dksX7_positiveOf_1 5 rfl rfl)
theorem dX7_positiveOf_30 : decode cX7_positiveOf 30 = .ok (.aload_n 0, 1) := dk_42 (dk_at dksX7_positiveOf_1 6 rfl rfl)
theorem dX7_positiveOf_31 : decode cX7_positiveOf 31 = .ok (.iload_n 1, 1) := dk_27 (dk_at dksX7_positiveOf_1 7 rfl rfl)
theorem dX7_positiveOf_32 : decode cX7_positiveOf 32 = .ok (.invokevirtual 321, 3) := dk_182 1 65 (dk_at dksX7_positiveOf_1 8 rfl rfl)
theorem dX7_positiveOf_35 : decode cX7_positiveOf 35 = .ok (.lstore_n 2, 1) := dk_65 (dk_at dksX7_positiveOf_1 11 rfl rfl)
theorem dX7_positiveOf_36 : decode cX7_positiveOf 36 = .ok (.aload_n 0, 1) := dk_42 (dk_at dksX7_positiveOf_1 12 rfl rfl)
theorem dX7_positiveOf_37 : decode cX7_positiveOf 37 = .ok (.aload_n 0, 1) := dk_42 (dk_at dksX7_positiveOf_1 13 rfl rfl)
theorem dX7_positiveOf_38 : decode cX7_positiveOf 38 = .ok (.getfield 294, 3) := dk_180 1 38 (dk_at dksX7_positiveOf_1 14 rfl rfl)
theorem dX7_positiveOf_41 : decode cX7_positiveOf 41 = .ok (.invokevirtual 297, 3) := dk_182 1 41 (dk_at dksX7_positiveOf_1 17 rfl rfl)
theorem dX7_positiveOf_44 : decode cX7_positiveOf 44 = .ok (.istore 4, 2) := dk_54 4 (dk_at dksX7_positiveOf_1 20 rfl rfl)
theorem dX7_positiveOf_46 : decode cX7_positiveOf 46 = .ok (.aload_n 0, 1) := dk_42 (dk_at dksX7_positiveOf_1 22 rfl rfl)
theorem dX7_positiveOf_47 : decode cX7_positiveOf 47 = .ok (.dup, 1) := dk_89 (dk_at dksX7_positiveOf_1 23 rfl rfl)
theorem dX7_positiveOf_48 : decode cX7_positiveOf 48 = .ok (.getfield 294, 3) := dk_180 1 38 (dk_at dksX7_positiveOf_2 0 rfl rfl)
theorem dX7_positiveOf_51 : decode cX7_positiveOf 51 = .ok (.iconst 1, 1) := dk_4 (dk_at dksX7_positiveOf_2 3 rfl rfl)
theorem dX7_positiveOf_52 : decode cX7_positiveOf 52 = .ok (.iadd, 1) := dk_96 (dk_at dksX7_positiveOf_2 4 rfl rfl)
theorem dX7_positiveOf_53 : decode cX7_positiveOf 53 = .ok (.putfield 294, 3) := dk_181 1 38 (dk_at dksX7_positiveOf_2 5 rfl rfl)
theorem dX7_positiveOf_56 : decode cX7_positiveOf 56 = .ok (.aload_n 0, 1) := dk_42 (dk_at dksX7_positiveOf_2 8 rfl rfl)
theorem dX7_positiveOf_57 : decode cX7_positiveOf 57 = .ok (.iload_n 1, 1) := dk_27 (dk_at dksX7_positiveOf_2 9 rfl rfl)
theorem dX7_positiveOf_58 : decode cX7_positiveOf 58 = .ok (.invokevirtual 321, 3) := dk_182 1 65 (dk_at dksX7_positiveOf_2 10 rfl rfl)
theorem dX7_positiveOf_61 : decode cX7_positiveOf 61 = .ok (.lstore 5, 2) := dk_55 5 (dk_at dksX7_positiveOf_2 13 rfl rfl)
theorem dX7_positiveOf_63 : decode cX7_positiveOf 63 = .ok (.iload_n 1, 1) := dk_27 (dk_at dksX7_positiveOf_2 15 rfl rfl)
theorem dX7_positiveOf_64 : decode cX7_positiveOf 64 = .ok (.ifCond .eq 61, 3) := dk_153 0 61 (dk_at dksX7_positiveOf_2 16 rfl rfl)
theorem dX7_positiveOf_67 : decode cX7_positiveOf 67 = .ok (.aload_n 0, 1) := dk_42 (dk_at dksX7_positiveOf_2 19 rfl rfl)
theorem dX7_positiveOf_68 : decode cX7_positiveOf 68 = .ok (.getfield 304, 3) := dk_180 1 48 (dk_at dksX7_positiveOf_2 20 rfl rfl)
theorem dX7_positiveOf_71 : decode cX7_positiveOf 71 = .ok (.ifCond .ne 54, 3) := dk_154 0 54 (dk_at dksX7_positiveOf_3 0 rfl rfl)
theorem dX7_positiveOf_74 : decode cX7_positiveOf 74 = .ok (.iload 4, 2) := dk_21 4 (dk_at dksX7_positiveOf_3 3 rfl rfl)
theorem dX7_positiveOf_76 : decode cX7_positiveOf 76 = .ok (.bipush 60, 2) := dk_16 60 (dk_at dksX7_positiveOf_3 5 rfl rfl)
theorem dX7_positiveOf_78 : decode cX7_positiveOf 78 = .ok (.invokestatic 253, 3) := dk_184 0 253 (dk_at dksX7_positiveOf_3 7 rfl rfl)
theorem dX7_positiveOf_81 : decode cX7_positiveOf 81 = .ok (.if_icmp .ne 13, 3) := dk_160 0 13 (dk_at dksX7_positiveOf_3 10 rfl rfl)
theorem dX7_positiveOf_84 : decode cX7_positiveOf 84 = .ok (.lload_n 2, 1) := dk_32 (dk_at dksX7_positiveOf_3 13 rfl rfl)
theorem dX7_positiveOf_85 : decode cX7_positiveOf 85 = .ok (.lload 5, 2) := dk_22 5 (dk_at dksX7_positiveOf_3 14 rfl rfl)
theorem dX7_positiveOf_87 : decode cX7_positiveOf 87 = .ok (.lcmp, 1) := dk_148 (dk_at dksX7_positiveOf_3 16 rfl rfl)
theorem dX7_positiveOf_88 : decode cX7_positiveOf 88 = .ok (.ifCond .ge 37, 3) := dk_156 0 37 (dk_at dksX7_positiveOf_3 17 rfl rfl)
theorem dX7_positiveOf_91 : decode cX7_positiveOf 91 = .ok (.goto 30, 3) := dk_167 0 30 (dk_at dksX7_positiveOf_3 20 rfl rfl)
theorem dX7_positiveOf_94 : decode cX7_positiveOf 94 = .ok (.iload 4, 2) := dk_21 4 (dk_at dksX7_positiveOf_4 0 rfl rfl)
theorem dX7_positiveOf_96 : decode cX7_positiveOf 96 = .ok (.bipush 62, 2) := dk_16 62 (dk_at dksX7_positiveOf_4 2 rfl rfl)
theorem dX7_positiveOf_98 : decode cX7_positiveOf 98 = .ok (.invokestatic 253, 3) := dk_184 0 253 (dk_at dksX7_positiveOf_4 4 rfl rfl)
theorem dX7_positiveOf_101 : decode cX7_positiveOf 101 = .ok (.if_icmp .ne 13, 3) := dk_160 0 13 (dk_at dksX7_positiveOf_4 7 rfl rfl)
theorem dX7_positiveOf_104 : decode cX7_positiveOf 104 = .ok (.lload_n 2, 1) := dk_32 (dk_at dksX7_positiveOf_4 10 rfl rfl)
theorem dX7_positiveOf_105 : decode cX7_positiveOf 105 = .ok (.lload 5, 2) := dk_22 5 (dk_at dksX7_positiveOf_4 11 rfl rfl)
theorem dX7_positiveOf_107 : decode cX7_positiveOf 107 = .ok (.lcmp, 1) := dk_148 (dk_at dksX7_positiveOf_4 13 rfl rfl)
theorem dX7_positiveOf_108 : decode cX7_positiveOf 108 = .ok (.ifCond .le 17, 3) := dk_158 0 17 (dk_at dksX7_positiveOf_4 14 rfl rfl)
theorem dX7_positiveOf_111 : decode cX7_positiveOf 111 = .ok (.goto 10, 3) := dk_167 0 10 (dk_at dksX7_positiveOf_4 17 rfl rfl)
theorem dX7_positiveOf_114 : decode cX7_positiveOf 114 = .ok (.lload_n 2, 1) := dk_32 (dk_at dksX7_positiveOf_4 20 rfl rfl)
theorem dX7_positiveOf_115 : decode cX7_positiveOf 115 = .ok (.lload 5, 2) := dk_22 5 (dk_at dksX7_positiveOf_4 21 rfl rfl)
theorem dX7_positiveOf_117 : decode cX7_positiveOf 117 = .ok (.lcmp, 1) := dk_148 (dk_at dksX7_positiveOf_4 23 rfl rfl)
theorem dX7_positiveOf_118 : decode cX7_positiveOf 118 = .ok (.ifCond .ne 7, 3) := dk_154 0 7 (dk_at dksX7_positiveOf_5 0 rfl rfl)
theorem dX7_positiveOf_121 : decode cX7_positiveOf 121 = .ok (.iconst 1, 1) := dk_4 (dk_at dksX7_positiveOf_5 3 rfl rfl)
theorem dX7_positiveOf_122 : decode cX7_positiveOf 122 = .ok (.goto 4, 3) := dk_167 0 4 (dk_at dksX7_positiveOf_5 4 rfl rfl)
theorem dX7_positiveOf_125 : decode cX7_positiveOf 125 = .ok (.iconst 0, 1) := dk_3 (dk_at dksX7_positiveOf_5 7 rfl rfl)
theorem dX7_positiveOf_126 : decode cX7_positiveOf 126 = .ok (.ireturn, 1) := dk_172 (dk_at dksX7_positiveOf_5 8 rfl rfl)
abbrev cX7_isBarred : ByteArray := prog_32_method_72_code
def yX7_isBarred : MethodName := ⟨RX7, "isBarred", "(II)Z"⟩
def dkwX7_isBarred_0 : List UInt8 := [42, 27, 28, 182, 1, 94, 42, 5, 3, 182, 1, 97, 4, 160, 0, 7, 4, 167, 0, 4, 3, 172]
abbrev dktX7_isBarred_0 : List UInt8 := dkwX7_isBarred_0 ++ []
theorem dksX7_isBarred_0 : cX7_isBarred.data.toList.drop 0 = dktX7_isBarred_0 := by decide +kernel
theorem dX7_isBarred_0 : decode cX7_isBarred 0 = .ok (.aload_n 0, 1) := dk_42 (dk_at dksX7_isBarred_0 0 rfl rfl)
theorem dX7_isBarred_1 : decode cX7_isBarred 1 = .ok (.iload_n 1, 1) := dk_27 (dk_at dksX7_isBarred_0 1 rfl rfl)
theorem dX7_isBarred_2 : decode cX7_isBarred 2 = .ok (.iload_n 2, 1) := dk_28 (dk_at dksX7_isBarred_0 2 rfl rfl)
theorem dX7_isBarred_3 : decode cX7_isBarred 3 = .ok (.invokevirtual 350, 3) := dk_182 1 94 (dk_at dksX7_isBarred_0 3 rfl rfl)
theorem dX7_isBarred_6 : decode cX7_isBarred 6 = .ok (.aload_n 0, 1) := dk_42 (dk_at dksX7_isBarred_0 6 rfl rfl)
theorem dX7_isBarred_7 : decode cX7_isBarred 7 = .ok (.iconst 2, 1) := dk_5 (dk_at dksX7_isBarred_0 7 rfl rfl)
theorem dX7_isBarred_8 : decode cX7_isBarred 8 = .ok (.iconst 0, 1) := dk_3 (dk_at dksX7_isBarred_0 8 rfl rfl)
theorem dX7_isBarred_9 : decode cX7_isBarred 9 = .ok (.invokevirtual 353, 3) := dk_182 1 97 (dk_at dksX7_isBarred_0 9 rfl rfl)
theorem dX7_isBarred_12 : decode cX7_isBarred 12 = .ok (.iconst 1, 1) := dk_4 (dk_at dksX7_isBarred_0 12 rfl rfl)
theorem dX7_isBarred_13 : decode cX7_isBarred 13 = .ok (.if_icmp .ne 7, 3) := dk_160 0 7 (dk_at dksX7_isBarred_0 13 rfl rfl)
theorem dX7_isBarred_16 : decode cX7_isBarred 16 = .ok (.iconst 1, 1) := dk_4 (dk_at dksX7_isBarred_0 16 rfl rfl)
theorem dX7_isBarred_17 : decode cX7_isBarred 17 = .ok (.goto 4, 3) := dk_167 0 4 (dk_at dksX7_isBarred_0 17 rfl rfl)
theorem dX7_isBarred_20 : decode cX7_isBarred 20 = .ok (.iconst 0, 1) := dk_3 (dk_at dksX7_isBarred_0 20 rfl rfl)
theorem dX7_isBarred_21 : decode cX7_isBarred 21 = .ok (.ireturn, 1) := dk_172 (dk_at dksX7_isBarred_0 21 rfl rfl)
abbrev cX7_terms : ByteArray := prog_32_method_24_code
def yX7_terms : MethodName := ⟨RX7, "terms", "(II)I"⟩
def dkwX7_terms_2 : List UInt8 := [172]
abbrev dktX7_terms_2 : List UInt8 := dkwX7_terms_2 ++ []
def dkwX7_terms_1 : List UInt8 := [42, 180, 0, 28, 27, 184, 0, 176, 28, 79, 27, 6, 160, 0, 7, 42, 182, 0, 139, 42, 29, 182, 0, 149]
abbrev dktX7_terms_1 : List UInt8 := dkwX7_terms_1 ++ dktX7_terms_2
def dkwX7_terms_0 : List UInt8 := [27, 28, 184, 0, 173, 154, 0, 9, 42, 2, 182, 0, 146, 172, 42, 180, 0, 28, 27, 184, 0, 176, 46, 62]
abbrev dktX7_terms_0 : List UInt8 := dkwX7_terms_0 ++ dktX7_terms_1
theorem dksX7_terms_0 : cX7_terms.data.toList.drop 0 = dktX7_terms_0 := by decide +kernel
theorem dksX7_terms_1 : cX7_terms.data.toList.drop 24 = dktX7_terms_1 := dk_seg dksX7_terms_0 24 rfl rfl
theorem dksX7_terms_2 : cX7_terms.data.toList.drop 48 = dktX7_terms_2 := dk_seg dksX7_terms_1 24 rfl rfl
theorem dX7_terms_0 : decode cX7_terms 0 = .ok (.iload_n 1, 1) := dk_27 (dk_at dksX7_terms_0 0 rfl rfl)
theorem dX7_terms_1 : decode cX7_terms 1 = .ok (.iload_n 2, 1) := dk_28 (dk_at dksX7_terms_0 1 rfl rfl)
theorem dX7_terms_2 : decode cX7_terms 2 = .ok (.invokestatic 173, 3) := dk_184 0 173 (dk_at dksX7_terms_0 2 rfl rfl)
theorem dX7_terms_5 : decode cX7_terms 5 = .ok (.ifCond .ne 9, 3) := dk_154 0 9 (dk_at dksX7_terms_0 5 rfl rfl)
theorem dX7_terms_8 : decode cX7_terms 8 = .ok (.aload_n 0, 1) := dk_42 (dk_at dksX7_terms_0 8 rfl rfl)
theorem dX7_terms_9 : decode cX7_terms 9 = .ok (.iconst (-1), 1) := dk_2 (dk_at dksX7_terms_0 9 rfl rfl)
theorem dX7_terms_10 : decode cX7_terms 10 = .ok (.invokevirtual 146, 3) := dk_182 0 146 (dk_at dksX7_terms_0 10 rfl rfl)
theorem dX7_terms_13 : decode cX7_terms 13 = .ok (.ireturn, 1) := dk_172 (dk_at dksX7_terms_0 13 rfl rfl)
theorem dX7_terms_14 : decode cX7_terms 14 = .ok (.aload_n 0, 1) := dk_42 (dk_at dksX7_terms_0 14 rfl rfl)
theorem dX7_terms_15 : decode cX7_terms 15 = .ok (.getfield 28, 3) := dk_180 0 28 (dk_at dksX7_terms_0 15 rfl rfl)
theorem dX7_terms_18 : decode cX7_terms 18 = .ok (.iload_n 1, 1) := dk_27 (dk_at dksX7_terms_0 18 rfl rfl)
theorem dX7_terms_19 : decode cX7_terms 19 = .ok (.invokestatic 176, 3) := dk_184 0 176 (dk_at dksX7_terms_0 19 rfl rfl)
theorem dX7_terms_22 : decode cX7_terms 22 = .ok (.iaload, 1) := dk_46 (dk_at dksX7_terms_0 22 rfl rfl)
theorem dX7_terms_23 : decode cX7_terms 23 = .ok (.istore_n 3, 1) := dk_62 (dk_at dksX7_terms_0 23 rfl rfl)
theorem dX7_terms_24 : decode cX7_terms 24 = .ok (.aload_n 0, 1) := dk_42 (dk_at dksX7_terms_1 0 rfl rfl)
theorem dX7_terms_25 : decode cX7_terms 25 = .ok (.getfield 28, 3) := dk_180 0 28 (dk_at dksX7_terms_1 1 rfl rfl)
theorem dX7_terms_28 : decode cX7_terms 28 = .ok (.iload_n 1, 1) := dk_27 (dk_at dksX7_terms_1 4 rfl rfl)
theorem dX7_terms_29 : decode cX7_terms 29 = .ok (.invokestatic 176, 3) := dk_184 0 176 (dk_at dksX7_terms_1 5 rfl rfl)
theorem dX7_terms_32 : decode cX7_terms 32 = .ok (.iload_n 2, 1) := dk_28 (dk_at dksX7_terms_1 8 rfl rfl)
theorem dX7_terms_33 : decode cX7_terms 33 = .ok (.iastore, 1) := dk_79 (dk_at dksX7_terms_1 9 rfl rfl)
theorem dX7_terms_34 : decode cX7_terms 34 = .ok (.iload_n 1, 1) := dk_27 (dk_at dksX7_terms_1 10 rfl rfl)
theorem dX7_terms_35 : decode cX7_terms 35 = .ok (.iconst 3, 1) := dk_6 (dk_at dksX7_terms_1 11 rfl rfl)
theorem dX7_terms_36 : decode cX7_terms 36 = .ok (.if_icmp .ne 7, 3) := dk_160 0 7 (dk_at dksX7_terms_1 12 rfl rfl)
theorem dX7_terms_39 : decode cX7_terms 39 = .ok (.aload_n 0, 1) := dk_42 (dk_at dksX7_terms_1 15 rfl rfl)
theorem dX7_terms_40 : decode cX7_terms 40 = .ok (.invokevirtual 139, 3) := dk_182 0 139 (dk_at dksX7_terms_1 16 rfl rfl)
theorem dX7_terms_43 : decode cX7_terms 43 = .ok (.aload_n 0, 1) := dk_42 (dk_at dksX7_terms_1 19 rfl rfl)
theorem dX7_terms_44 : decode cX7_terms 44 = .ok (.iload_n 3, 1) := dk_29 (dk_at dksX7_terms_1 20 rfl rfl)
theorem dX7_terms_45 : decode cX7_terms 45 = .ok (.invokevirtual 149, 3) := dk_182 0 149 (dk_at dksX7_terms_1 21 rfl rfl)
theorem dX7_terms_48 : decode cX7_terms 48 = .ok (.ireturn, 1) := dk_172 (dk_at dksX7_terms_2 0 rfl rfl)
abbrev cX7_isTerm : ByteArray := prog_32_method_22_code
def yX7_isTerm : MethodName := ⟨RX7, "isTerm", "(II)Z"⟩
def dkwX7_isTerm_3 : List UInt8 := [172, 27, 3, 17, 3, 231, 184, 0, 18, 172, 3, 172]
abbrev dktX7_isTerm_3 : List UInt8 := dkwX7_isTerm_3 ++ []
def dkwX7_isTerm_2 : List UInt8 := [27, 3, 17, 3, 231, 184, 0, 18, 172, 27, 3, 16, 10, 184, 0, 18, 172, 27, 3, 16, 9, 184, 0, 18]
abbrev dktX7_isTerm_2 : List UInt8 := dkwX7_isTerm_2 ++ dktX7_isTerm_3
def dkwX7_isTerm_1 : List UInt8 := [170, 0, 0, 0, 0, 0, 65, 0, 0, 0, 0, 0, 0, 0, 3, 0, 0, 0, 31, 0, 0, 0, 40, 0, 0, 0, 48, 0, 0, 0, 56]
abbrev dktX7_isTerm_1 : List UInt8 := dkwX7_isTerm_1 ++ dktX7_isTerm_2
def dkwX7_isTerm_0 : List UInt8 := [26]
abbrev dktX7_isTerm_0 : List UInt8 := dkwX7_isTerm_0 ++ dktX7_isTerm_1
theorem dksX7_isTerm_0 : cX7_isTerm.data.toList.drop 0 = dktX7_isTerm_0 := by decide +kernel
theorem dksX7_isTerm_1 : cX7_isTerm.data.toList.drop 1 = dktX7_isTerm_1 := dk_seg dksX7_isTerm_0 1 rfl rfl
theorem dksX7_isTerm_2 : cX7_isTerm.data.toList.drop 32 = dktX7_isTerm_2 := dk_seg dksX7_isTerm_1 31 rfl rfl
theorem dksX7_isTerm_3 : cX7_isTerm.data.toList.drop 56 = dktX7_isTerm_3 := dk_seg dksX7_isTerm_2 24 rfl rfl
theorem dX7_isTerm_0 : decode cX7_isTerm 0 = .ok (.iload_n 0, 1) := dk_26 (dk_at dksX7_isTerm_0 0 rfl rfl)
theorem dX7_isTerm_1 : decode cX7_isTerm 1 = .ok (.tableswitch 65 0 3 #[31, 40, 48, 56], 31) := by decide +kernel
theorem dX7_isTerm_32 : decode cX7_isTerm 32 = .ok (.iload_n 1, 1) := dk_27 (dk_at dksX7_isTerm_2 0 rfl rfl)
theorem dX7_isTerm_33 : decode cX7_isTerm 33 = .ok (.iconst 0, 1) := dk_3 (dk_at dksX7_isTerm_2 1 rfl rfl)
theorem dX7_isTerm_34 : decode cX7_isTerm 34 = .ok (.sipush 999, 3) := dk_17 3 231 (dk_at dksX7_isTerm_2 2 rfl rfl)
theorem dX7_isTerm_37 : decode cX7_isTerm 37 = .ok (.invokestatic 18, 3) := dk_184 0 18 (dk_at dksX7_isTerm_2 5 rfl rfl)
theorem dX7_isTerm_40 : decode cX7_isTerm 40 = .ok (.ireturn, 1) := dk_172 (dk_at dksX7_isTerm_2 8 rfl rfl)
theorem dX7_isTerm_41 : decode cX7_isTerm 41 = .ok (.iload_n 1, 1) := dk_27 (dk_at dksX7_isTerm_2 9 rfl rfl)
theorem dX7_isTerm_42 : decode cX7_isTerm 42 = .ok (.iconst 0, 1) := dk_3 (dk_at dksX7_isTerm_2 10 rfl rfl)
theorem dX7_isTerm_43 : decode cX7_isTerm 43 = .ok (.bipush 10, 2) := dk_16 10 (dk_at dksX7_isTerm_2 11 rfl rfl)
theorem dX7_isTerm_45 : decode cX7_isTerm 45 = .ok (.invokestatic 18, 3) := dk_184 0 18 (dk_at dksX7_isTerm_2 13 rfl rfl)
theorem dX7_isTerm_48 : decode cX7_isTerm 48 = .ok (.ireturn, 1) := dk_172 (dk_at dksX7_isTerm_2 16 rfl rfl)
theorem dX7_isTerm_49 : decode cX7_isTerm 49 = .ok (.iload_n 1, 1) := dk_27 (dk_at dksX7_isTerm_2 17 rfl rfl)
theorem dX7_isTerm_50 : decode cX7_isTerm 50 = .ok (.iconst 0, 1) := dk_3 (dk_at dksX7_isTerm_2 18 rfl rfl)
theorem dX7_isTerm_51 : decode cX7_isTerm 51 = .ok (.bipush 9, 2) := dk_16 9 (dk_at dksX7_isTerm_2 19 rfl rfl)
theorem dX7_isTerm_53 : decode cX7_isTerm 53 = .ok (.invokestatic 18, 3) := dk_184 0 18 (dk_at dksX7_isTerm_2 21 rfl rfl)
theorem dX7_isTerm_56 : decode cX7_isTerm 56 = .ok (.ireturn, 1) := dk_172 (dk_at dksX7_isTerm_3 0 rfl rfl)
theorem dX7_isTerm_57 : decode cX7_isTerm 57 = .ok (.iload_n 1, 1) := dk_27 (dk_at dksX7_isTerm_3 1 rfl rfl)
theorem dX7_isTerm_58 : decode cX7_isTerm 58 = .ok (.iconst 0, 1) := dk_3 (dk_at dksX7_isTerm_3 2 rfl rfl)
theorem dX7_isTerm_59 : decode cX7_isTerm 59 = .ok (.sipush 999, 3) := dk_17 3 231 (dk_at dksX7_isTerm_3 3 rfl rfl)
theorem dX7_isTerm_62 : decode cX7_isTerm 62 = .ok (.invokestatic 18, 3) := dk_184 0 18 (dk_at dksX7_isTerm_3 6 rfl rfl)
theorem dX7_isTerm_65 : decode cX7_isTerm 65 = .ok (.ireturn, 1) := dk_172 (dk_at dksX7_isTerm_3 9 rfl rfl)
theorem dX7_isTerm_66 : decode cX7_isTerm 66 = .ok (.iconst 0, 1) := dk_3 (dk_at dksX7_isTerm_3 10 rfl rfl)
theorem dX7_isTerm_67 : decode cX7_isTerm 67 = .ok (.ireturn, 1) := dk_172 (dk_at dksX7_isTerm_3 11 rfl rfl)
abbrev cX7_termAt : ByteArray := prog_32_method_23_code
def yX7_termAt : MethodName := ⟨RX7, "termAt", "(I)I"⟩
def dkwX7_termAt_2 : List UInt8 := [17, 1, 112, 172, 17, 1, 126, 172, 17, 1, 127, 172, 17, 1, 128, 172]
abbrev dktX7_termAt_2 : List UInt8 := dkwX7_termAt_2 ++ []
def dkwX7_termAt_1 : List UInt8 := [170, 0, 0, 0, 0, 0, 39, 0, 0, 0, 0, 0, 0, 0, 2, 0, 0, 0, 27, 0, 0, 0, 31, 0, 0, 0, 35]
abbrev dktX7_termAt_1 : List UInt8 := dkwX7_termAt_1 ++ dktX7_termAt_2
def dkwX7_termAt_0 : List UInt8 := [26]
abbrev dktX7_termAt_0 : List UInt8 := dkwX7_termAt_0 ++ dktX7_termAt_1
theorem dksX7_termAt_0 : cX7_termAt.data.toList.drop 0 = dktX7_termAt_0 := by decide +kernel
theorem dksX7_termAt_1 : cX7_termAt.data.toList.drop 1 = dktX7_termAt_1 := dk_seg dksX7_termAt_0 1 rfl rfl
theorem dksX7_termAt_2 : cX7_termAt.data.toList.drop 28 = dktX7_termAt_2 := dk_seg dksX7_termAt_1 27 rfl rfl
theorem dX7_termAt_0 : decode cX7_termAt 0 = .ok (.iload_n 0, 1) := dk_26 (dk_at dksX7_termAt_0 0 rfl rfl)
theorem dX7_termAt_1 : decode cX7_termAt 1 = .ok (.tableswitch 39 0 2 #[27, 31, 35], 27) := by decide +kernel
theorem dX7_termAt_28 : decode cX7_termAt 28 = .ok (.sipush 368, 3) := dk_17 1 112 (dk_at dksX7_termAt_2 0 rfl rfl)
theorem dX7_termAt_31 : decode cX7_termAt 31 = .ok (.ireturn, 1) := dk_172 (dk_at dksX7_termAt_2 3 rfl rfl)
theorem dX7_termAt_32 : decode cX7_termAt 32 = .ok (.sipush 382, 3) := dk_17 1 126 (dk_at dksX7_termAt_2 4 rfl rfl)
theorem dX7_termAt_35 : decode cX7_termAt 35 = .ok (.ireturn, 1) := dk_172 (dk_at dksX7_termAt_2 7 rfl rfl)
theorem dX7_termAt_36 : decode cX7_termAt 36 = .ok (.sipush 383, 3) := dk_17 1 127 (dk_at dksX7_termAt_2 8 rfl rfl)
theorem dX7_termAt_39 : decode cX7_termAt 39 = .ok (.ireturn, 1) := dk_172 (dk_at dksX7_termAt_2 11 rfl rfl)
theorem dX7_termAt_40 : decode cX7_termAt 40 = .ok (.sipush 384, 3) := dk_17 1 128 (dk_at dksX7_termAt_2 12 rfl rfl)
theorem dX7_termAt_43 : decode cX7_termAt 43 = .ok (.ireturn, 1) := dk_172 (dk_at dksX7_termAt_2 15 rfl rfl)
abbrev cX7_row : ByteArray := prog_32_method_25_code
def yX7_row : MethodName := ⟨RX7, "row", "()I"⟩
def dkwX7_row_5 : List UInt8 := [28, 182, 0, 149, 172]
abbrev dktX7_row_5 : List UInt8 := dkwX7_row_5 ++ []
def dkwX7_row_4 : List UInt8 := [180, 0, 182, 21, 4, 153, 0, 7, 3, 167, 0, 4, 4, 96, 181, 0, 182, 132, 3, 2, 167, 255, 175, 42]
abbrev dktX7_row_4 : List UInt8 := dkwX7_row_4 ++ dktX7_row_5
def dkwX7_row_3 : List UInt8 := [17, 0, 255, 126, 182, 0, 185, 87, 28, 21, 4, 153, 0, 7, 4, 167, 0, 4, 3, 96, 61, 42, 89]
abbrev dktX7_row_3 : List UInt8 := dkwX7_row_3 ++ dktX7_row_4
def dkwX7_row_2 : List UInt8 := [54, 4, 21, 4, 153, 0, 26, 42, 42, 180, 0, 55, 29, 51, 42, 180, 0, 55, 29, 4, 96, 51]
abbrev dktX7_row_2 : List UInt8 := dkwX7_row_2 ++ dktX7_row_3
def dkwX7_row_1 : List UInt8 := [27, 5, 112, 181, 0, 182, 3, 62, 29, 5, 96, 27, 163, 0, 80, 42, 180, 0, 55, 29, 51, 184, 0, 152]
abbrev dktX7_row_1 : List UInt8 := dkwX7_row_1 ++ dktX7_row_2
def dkwX7_row_0 : List UInt8 := [42, 180, 0, 179, 60, 42, 3, 181, 0, 179, 27, 154, 0, 10, 42, 16, 250, 182, 0, 146, 172, 3, 61, 42]
abbrev dktX7_row_0 : List UInt8 := dkwX7_row_0 ++ dktX7_row_1
theorem dksX7_row_0 : cX7_row.data.toList.drop 0 = dktX7_row_0 := by decide +kernel
theorem dksX7_row_1 : cX7_row.data.toList.drop 24 = dktX7_row_1 := dk_seg dksX7_row_0 24 rfl rfl
theorem dksX7_row_2 : cX7_row.data.toList.drop 48 = dktX7_row_2 := dk_seg dksX7_row_1 24 rfl rfl
theorem dksX7_row_3 : cX7_row.data.toList.drop 70 = dktX7_row_3 := dk_seg dksX7_row_2 22 rfl rfl
theorem dksX7_row_4 : cX7_row.data.toList.drop 93 = dktX7_row_4 := dk_seg dksX7_row_3 23 rfl rfl
theorem dksX7_row_5 : cX7_row.data.toList.drop 117 = dktX7_row_5 := dk_seg dksX7_row_4 24 rfl rfl
theorem dX7_row_0 : decode cX7_row 0 = .ok (.aload_n 0, 1) := dk_42 (dk_at dksX7_row_0 0 rfl rfl)
theorem dX7_row_1 : decode cX7_row 1 = .ok (.getfield 179, 3) := dk_180 0 179 (dk_at dksX7_row_0 1 rfl rfl)
theorem dX7_row_4 : decode cX7_row 4 = .ok (.istore_n 1, 1) := dk_60 (dk_at dksX7_row_0 4 rfl rfl)
theorem dX7_row_5 : decode cX7_row 5 = .ok (.aload_n 0, 1) := dk_42 (dk_at dksX7_row_0 5 rfl rfl)
theorem dX7_row_6 : decode cX7_row 6 = .ok (.iconst 0, 1) := dk_3 (dk_at dksX7_row_0 6 rfl rfl)
theorem dX7_row_7 : decode cX7_row 7 = .ok (.putfield 179, 3) := dk_181 0 179 (dk_at dksX7_row_0 7 rfl rfl)
theorem dX7_row_10 : decode cX7_row 10 = .ok (.iload_n 1, 1) := dk_27 (dk_at dksX7_row_0 10 rfl rfl)
theorem dX7_row_11 : decode cX7_row 11 = .ok (.ifCond .ne 10, 3) := dk_154 0 10 (dk_at dksX7_row_0 11 rfl rfl)
theorem dX7_row_14 : decode cX7_row 14 = .ok (.aload_n 0, 1) := dk_42 (dk_at dksX7_row_0 14 rfl rfl)
theorem dX7_row_15 : decode cX7_row 15 = .ok (.bipush (-6), 2) := dk_16 250 (dk_at dksX7_row_0 15 rfl rfl)
theorem dX7_row_17 : decode cX7_row 17 = .ok (.invokevirtual 146, 3) := dk_182 0 146 (dk_at dksX7_row_0 17 rfl rfl)
theorem dX7_row_20 : decode cX7_row 20 = .ok (.ireturn, 1) := dk_172 (dk_at dksX7_row_0 20 rfl rfl)
theorem dX7_row_21 : decode cX7_row 21 = .ok (.iconst 0, 1) := dk_3 (dk_at dksX7_row_0 21 rfl rfl)
theorem dX7_row_22 : decode cX7_row 22 = .ok (.istore_n 2, 1) := dk_61 (dk_at dksX7_row_0 22 rfl rfl)
theorem dX7_row_23 : decode cX7_row 23 = .ok (.aload_n 0, 1) := dk_42 (dk_at dksX7_row_0 23 rfl rfl)
theorem dX7_row_24 : decode cX7_row 24 = .ok (.iload_n 1, 1) := dk_27 (dk_at dksX7_row_1 0 rfl rfl)
theorem dX7_row_25 : decode cX7_row 25 = .ok (.iconst 2, 1) := dk_5 (dk_at dksX7_row_1 1 rfl rfl)
theorem dX7_row_26 : decode cX7_row 26 = .ok (.irem, 1) := dk_112 (dk_at dksX7_row_1 2 rfl rfl)
theorem dX7_row_27 : decode cX7_row 27 = .ok (.putfield 182, 3) := dk_181 0 182 (dk_at dksX7_row_1 3 rfl rfl)
theorem dX7_row_30 : decode cX7_row 30 = .ok (.iconst 0, 1) := dk_3 (dk_at dksX7_row_1 6 rfl rfl)
theorem dX7_row_31 : decode cX7_row 31 = .ok (.istore_n 3, 1) := dk_62 (dk_at dksX7_row_1 7 rfl rfl)
theorem dX7_row_32 : decode cX7_row 32 = .ok (.iload_n 3, 1) := dk_29 (dk_at dksX7_row_1 8 rfl rfl)
theorem dX7_row_33 : decode cX7_row 33 = .ok (.iconst 2, 1) := dk_5 (dk_at dksX7_row_1 9 rfl rfl)
theorem dX7_row_34 : decode cX7_row 34 = .ok (.iadd, 1) := dk_96 (dk_at dksX7_row_1 10 rfl rfl)
theorem dX7_row_35 : decode cX7_row 35 = .ok (.iload_n 1, 1) := dk_27 (dk_at dksX7_row_1 11 rfl rfl)
theorem dX7_row_36 : decode cX7_row 36 = .ok (.if_icmp .gt 80, 3) := dk_163 0 80 (dk_at dksX7_row_1 12 rfl rfl)
theorem dX7_row_39 : decode cX7_row 39 = .ok (.aload_n 0, 1) := dk_42 (dk_at dksX7_row_1 15 rfl rfl)
theorem dX7_row_40 : decode cX7_row 40 = .ok (.getfield 55, 3) := dk_180 0 55 (dk_at dksX7_row_1 16 rfl rfl)
theorem dX7_row_43 : decode cX7_row 43 = .ok (.iload_n 3, 1) := dk_29 (dk_at dksX7_row_1 19 rfl rfl)
theorem dX7_row_44 : decode cX7_row 44 = .ok (.baload, 1) := dk_51 (dk_at dksX7_row_1 20 rfl rfl)
theorem dX7_row_45 : decode cX7_row 45 = .ok (.invokestatic 152, 3) := dk_184 0 152 (dk_at dksX7_row_1 21 rfl rfl)
theorem dX7_row_48 : decode cX7_row 48 = .ok (.istore 4, 2) := dk_54 4 (dk_at dksX7_row_2 0 rfl rfl)
theorem dX7_row_50 : decode cX7_row 50 = .ok (.iload 4, 2) := dk_21 4 (dk_at dksX7_row_2 2 rfl rfl)
theorem dX7_row_52 : decode cX7_row 52 = .ok (.ifCond .eq 26, 3) := dk_153 0 26 (dk_at dksX7_row_2 4 rfl rfl)
theorem dX7_row_55 : decode cX7_row 55 = .ok (.aload_n 0, 1) := dk_42 (dk_at dksX7_row_2 7 rfl rfl)
theorem dX7_row_56 : decode cX7_row 56 = .ok (.aload_n 0, 1) := dk_42 (dk_at dksX7_row_2 8 rfl rfl)
theorem dX7_row_57 : decode cX7_row 57 = .ok (.getfield 55, 3) := dk_180 0 55 (dk_at dksX7_row_2 9 rfl rfl)
theorem dX7_row_60 : decode cX7_row 60 = .ok (.iload_n 3, 1) := dk_29 (dk_at dksX7_row_2 12 rfl rfl)
theorem dX7_row_61 : decode cX7_row 61 = .ok (.baload, 1) := dk_51 (dk_at dksX7_row_2 13 rfl rfl)
theorem dX7_row_62 : decode cX7_row 62 = .ok (.aload_n 0, 1) := dk_42 (dk_at dksX7_row_2 14 rfl rfl)
theorem dX7_row_63 : decode cX7_row 63 = .ok (.getfield 55, 3) := dk_180 0 55 (dk_at dksX7_row_2 15 rfl rfl)
theorem dX7_row_66 : decode cX7_row 66 = .ok (.iload_n 3, 1) := dk_29 (dk_at dksX7_row_2 18 rfl rfl)
theorem dX7_row_67 : decode cX7_row 67 = .ok (.iconst 1, 1) := dk_4 (dk_at dksX7_row_2 19 rfl rfl)
theorem dX7_row_68 : decode cX7_row 68 = .ok (.iadd, 1) := dk_96 (dk_at dksX7_row_2 20 rfl rfl)
theorem dX7_row_69 : decode cX7_row 69 = .ok (.baload, 1) := dk_51 (dk_at dksX7_row_2 21 rfl rfl)
theorem dX7_row_70 : decode cX7_row 70 = .ok (.sipush 255, 3) := dk_17 0 255 (dk_at dksX7_row_3 0 rfl rfl)
theorem dX7_row_73 : decode cX7_row 73 = .ok (.iand, 1) := dk_126 (dk_at dksX7_row_3 3 rfl rfl)
theorem dX7_row_74 : decode cX7_row 74 = .ok (.invokevirtual 185, 3) := dk_182 0 185 (dk_at dksX7_row_3 4 rfl rfl)
theorem dX7_row_77 : decode cX7_row 77 = .ok (.pop, 1) := dk_87 (dk_at dksX7_row_3 7 rfl rfl)
theorem dX7_row_78 : decode cX7_row 78 = .ok (.iload_n 2, 1) := dk_28 (dk_at dksX7_row_3 8 rfl rfl)
theorem dX7_row_79 : decode cX7_row 79 = .ok (.iload 4, 2) := dk_21 4 (dk_at dksX7_row_3 9 rfl rfl)
theorem dX7_row_81 : decode cX7_row 81 = .ok (.ifCond .eq 7, 3) := dk_153 0 7 (dk_at dksX7_row_3 11 rfl rfl)
theorem dX7_row_84 : decode cX7_row 84 = .ok (.iconst 1, 1) := dk_4 (dk_at dksX7_row_3 14 rfl rfl)
theorem dX7_row_85 : decode cX7_row 85 = .ok (.goto 4, 3) := dk_167 0 4 (dk_at dksX7_row_3 15 rfl rfl)
theorem dX7_row_88 : decode cX7_row 88 = .ok (.iconst 0, 1) := dk_3 (dk_at dksX7_row_3 18 rfl rfl)
theorem dX7_row_89 : decode cX7_row 89 = .ok (.iadd, 1) := dk_96 (dk_at dksX7_row_3 19 rfl rfl)
theorem dX7_row_90 : decode cX7_row 90 = .ok (.istore_n 2, 1) := dk_61 (dk_at dksX7_row_3 20 rfl rfl)
theorem dX7_row_91 : decode cX7_row 91 = .ok (.aload_n 0, 1) := dk_42 (dk_at dksX7_row_3 21 rfl rfl)
theorem dX7_row_92 : decode cX7_row 92 = .ok (.dup, 1) := dk_89 (dk_at dksX7_row_3 22 rfl rfl)
theorem dX7_row_93 : decode cX7_row 93 = .ok (.getfield 182, 3) := dk_180 0 182 (dk_at dksX7_row_4 0 rfl rfl)
theorem dX7_row_96 : decode cX7_row 96 = .ok (.iload 4, 2) := dk_21 4 (dk_at dksX7_row_4 3 rfl rfl)
theorem dX7_row_98 : decode cX7_row 98 = .ok (.ifCond .eq 7, 3) := dk_153 0 7 (dk_at dksX7_row_4 5 rfl rfl)
theorem dX7_row_101 : decode cX7_row 101 = .ok (.iconst 0, 1) := dk_3 (dk_at dksX7_row_4 8 rfl rfl)
theorem dX7_row_102 : decode cX7_row 102 = .ok (.goto 4, 3) := dk_167 0 4 (dk_at dksX7_row_4 9 rfl rfl)
theorem dX7_row_105 : decode cX7_row 105 = .ok (.iconst 1, 1) := dk_4 (dk_at dksX7_row_4 12 rfl rfl)
theorem dX7_row_106 : decode cX7_row 106 = .ok (.iadd, 1) := dk_96 (dk_at dksX7_row_4 13 rfl rfl)
theorem dX7_row_107 : decode cX7_row 107 = .ok (.putfield 182, 3) := dk_181 0 182 (dk_at dksX7_row_4 14 rfl rfl)
theorem dX7_row_110 : decode cX7_row 110 = .ok (.iinc 3 2, 3) := dk_132 3 2 (dk_at dksX7_row_4 17 rfl rfl)
theorem dX7_row_113 : decode cX7_row 113 = .ok (.goto (-81), 3) := dk_167 255 175 (dk_at dksX7_row_4 20 rfl rfl)
theorem dX7_row_116 : decode cX7_row 116 = .ok (.aload_n 0, 1) := dk_42 (dk_at dksX7_row_4 23 rfl rfl)
theorem dX7_row_117 : decode cX7_row 117 = .ok (.iload_n 2, 1) := dk_28 (dk_at dksX7_row_5 0 rfl rfl)
theorem dX7_row_118 : decode cX7_row 118 = .ok (.invokevirtual 149, 3) := dk_182 0 149 (dk_at dksX7_row_5 1 rfl rfl)
theorem dX7_row_121 : decode cX7_row 121 = .ok (.ireturn, 1) := dk_172 (dk_at dksX7_row_5 4 rfl rfl)
abbrev cX7_readsKey : ByteArray := prog_32_method_76_code
def yX7_readsKey : MethodName := ⟨RX7, "readsKey", "(II)I"⟩
def dkwX7_readsKey_7 : List UInt8 := [182, 1, 110, 29, 172]
abbrev dktX7_readsKey_7 : List UInt8 := dkwX7_readsKey_7 ++ []
def dkwX7_readsKey_6 : List UInt8 := [182, 0, 163, 42, 180, 0, 28, 27, 16, 58, 184, 0, 142, 46, 162, 0, 11, 42, 27, 28, 21, 4]
abbrev dktX7_readsKey_6 : List UInt8 := dkwX7_readsKey_6 ++ dktX7_readsKey_7
def dkwX7_readsKey_5 : List UInt8 := [16, 32, 160, 0, 11, 42, 27, 16, 59, 4, 182, 1, 100, 42, 27, 16, 59, 28, 182, 1, 107, 42, 28]
abbrev dktX7_readsKey_5 : List UInt8 := dkwX7_readsKey_5 ++ dktX7_readsKey_6
def dkwX7_readsKey_4 : List UInt8 := [3, 16, 24, 182, 1, 100, 42, 27, 3, 28, 182, 1, 104, 42, 180, 0, 28, 27, 16, 59, 184, 0, 142, 46]
abbrev dktX7_readsKey_4 : List UInt8 := dkwX7_readsKey_4 ++ dktX7_readsKey_5
def dkwX7_readsKey_3 : List UInt8 := [29, 182, 1, 100, 167, 0, 26, 42, 180, 0, 28, 27, 3, 184, 0, 142, 46, 16, 24, 160, 0, 11, 42, 27]
abbrev dktX7_readsKey_3 : List UInt8 := dkwX7_readsKey_3 ++ dktX7_readsKey_4
def dkwX7_readsKey_2 : List UInt8 := [180, 0, 28, 27, 16, 25, 29, 96, 184, 0, 142, 92, 46, 21, 4, 96, 79, 29, 158, 0, 13, 42, 27, 3]
abbrev dktX7_readsKey_2 : List UInt8 := dkwX7_readsKey_2 ++ dktX7_readsKey_3
def dkwX7_readsKey_1 : List UInt8 := [153, 0, 21, 42, 180, 0, 28, 27, 16, 25, 184, 0, 142, 92, 46, 21, 4, 96, 79, 3, 172, 42]
abbrev dktX7_readsKey_1 : List UInt8 := dkwX7_readsKey_1 ++ dktX7_readsKey_2
def dkwX7_readsKey_0 : List UInt8 := [42, 27, 3, 28, 182, 0, 159, 62, 42, 27, 28, 182, 0, 166, 54, 4, 42, 27, 28, 182, 0, 169]
abbrev dktX7_readsKey_0 : List UInt8 := dkwX7_readsKey_0 ++ dktX7_readsKey_1
theorem dksX7_readsKey_0 : cX7_readsKey.data.toList.drop 0 = dktX7_readsKey_0 := by decide +kernel
theorem dksX7_readsKey_1 : cX7_readsKey.data.toList.drop 22 = dktX7_readsKey_1 := dk_seg dksX7_readsKey_0 22 rfl rfl
theorem dksX7_readsKey_2 : cX7_readsKey.data.toList.drop 44 = dktX7_readsKey_2 := dk_seg dksX7_readsKey_1 22 rfl rfl
theorem dksX7_readsKey_3 : cX7_readsKey.data.toList.drop 68 = dktX7_readsKey_3 := dk_seg dksX7_readsKey_2 24 rfl rfl
theorem dksX7_readsKey_4 : cX7_readsKey.data.toList.drop 92 = dktX7_readsKey_4 := dk_seg dksX7_readsKey_3 24 rfl rfl
theorem dksX7_readsKey_5 : cX7_readsKey.data.toList.drop 116 = dktX7_readsKey_5 := dk_seg dksX7_readsKey_4 24 rfl rfl
theorem dksX7_readsKey_6 : cX7_readsKey.data.toList.drop 139 = dktX7_readsKey_6 := dk_seg dksX7_readsKey_5 23 rfl rfl
theorem dksX7_readsKey_7 : cX7_readsKey.data.toList.drop 161 = dktX7_readsKey_7 := dk_seg dksX7_readsKey_6 22 rfl rfl
theorem dX7_readsKey_0 : decode cX7_readsKey 0 = .ok (.aload_n 0, 1) := dk_42 (dk_at dksX7_readsKey_0 0 rfl rfl)
theorem dX7_readsKey_1 : decode cX7_readsKey 1 = .ok (.iload_n 1, 1) := dk_27 (dk_at dksX7_readsKey_0 1 rfl rfl)
theorem dX7_readsKey_2 : decode cX7_readsKey 2 = .ok (.iconst 0, 1) := dk_3 (dk_at dksX7_readsKey_0 2 rfl rfl)
theorem dX7_readsKey_3 : decode cX7_readsKey 3 = .ok (.iload_n 2, 1) := dk_28 (dk_at dksX7_readsKey_0 3 rfl rfl)
theorem dX7_readsKey_4 : decode cX7_readsKey 4 = .ok (.invokevirtual 159, 3) := dk_182 0 159 (dk_at dksX7_readsKey_0 4 rfl rfl)
theorem dX7_readsKey_7 : decode cX7_readsKey 7 = .ok (.istore_n 3, 1) := dk_62 (dk_at dksX7_readsKey_0 7 rfl rfl)
theorem dX7_readsKey_8 : decode cX7_readsKey 8 = .ok (.aload_n 0, 1) := dk_42 (dk_at dksX7_readsKey_0 8 rfl rfl)
theorem dX7_readsKey_9 : decode cX7_readsKey 9 = .ok (.iload_n 1, 1) := dk_27 (dk_at dksX7_readsKey_0 9 rfl rfl)
theorem dX7_readsKey_10 : decode cX7_readsKey 10 = .ok (.iload_n 2, 1) := dk_28 (dk_at dksX7_readsKey_0 10 rfl rfl)
theorem dX7_readsKey_11 : decode cX7_readsKey 11 = .ok (.invokevirtual 166, 3) := dk_182 0 166 (dk_at dksX7_readsKey_0 11 rfl rfl)
theorem dX7_readsKey_14 : decode cX7_readsKey 14 = .ok (.istore 4, 2) := dk_54 4 (dk_at dksX7_readsKey_0 14 rfl rfl)
theorem dX7_readsKey_16 : decode cX7_readsKey 16 = .ok (.aload_n 0, 1) := dk_42 (dk_at dksX7_readsKey_0 16 rfl rfl)
theorem dX7_readsKey_17 : decode cX7_readsKey 17 = .ok (.iload_n 1, 1) := dk_27 (dk_at dksX7_readsKey_0 17 rfl rfl)
theorem dX7_readsKey_18 : decode cX7_readsKey 18 = .ok (.iload_n 2, 1) := dk_28 (dk_at dksX7_readsKey_0 18 rfl rfl)
theorem dX7_readsKey_19 : decode cX7_readsKey 19 = .ok (.invokevirtual 169, 3) := dk_182 0 169 (dk_at dksX7_readsKey_0 19 rfl rfl)
theorem dX7_readsKey_22 : decode cX7_readsKey 22 = .ok (.ifCond .eq 21, 3) := dk_153 0 21 (dk_at dksX7_readsKey_1 0 rfl rfl)
theorem dX7_readsKey_25 : decode cX7_readsKey 25 = .ok (.aload_n 0, 1) := dk_42 (dk_at dksX7_readsKey_1 3 rfl rfl)
theorem dX7_readsKey_26 : decode cX7_readsKey 26 = .ok (.getfield 28, 3) := dk_180 0 28 (dk_at dksX7_readsKey_1 4 rfl rfl)
theorem dX7_readsKey_29 : decode cX7_readsKey 29 = .ok (.iload_n 1, 1) := dk_27 (dk_at dksX7_readsKey_1 7 rfl rfl)
theorem dX7_readsKey_30 : decode cX7_readsKey 30 = .ok (.bipush 25, 2) := dk_16 25 (dk_at dksX7_readsKey_1 8 rfl rfl)
theorem dX7_readsKey_32 : decode cX7_readsKey 32 = .ok (.invokestatic 142, 3) := dk_184 0 142 (dk_at dksX7_readsKey_1 10 rfl rfl)
theorem dX7_readsKey_35 : decode cX7_readsKey 35 = .ok (.dup2, 1) := dk_92 (dk_at dksX7_readsKey_1 13 rfl rfl)
theorem dX7_readsKey_36 : decode cX7_readsKey 36 = .ok (.iaload, 1) := dk_46 (dk_at dksX7_readsKey_1 14 rfl rfl)
theorem dX7_readsKey_37 : decode cX7_readsKey 37 = .ok (.iload 4, 2) := dk_21 4 (dk_at dksX7_readsKey_1 15 rfl rfl)
theorem dX7_readsKey_39 : decode cX7_readsKey 39 = .ok (.iadd, 1) := dk_96 (dk_at dksX7_readsKey_1 17 rfl rfl)
theorem dX7_readsKey_40 : decode cX7_readsKey 40 = .ok (.iastore, 1) := dk_79 (dk_at dksX7_readsKey_1 18 rfl rfl)
theorem dX7_readsKey_41 : decode cX7_readsKey 41 = .ok (.iconst 0, 1) := dk_3 (dk_at dksX7_readsKey_1 19 rfl rfl)
theorem dX7_readsKey_42 : decode cX7_readsKey 42 = .ok (.ireturn, 1) := dk_172 (dk_at dksX7_readsKey_1 20 rfl rfl)
theorem dX7_readsKey_43 : decode cX7_readsKey 43 = .ok (.aload_n 0, 1) := dk_42 (dk_at dksX7_readsKey_1 21 rfl rfl)
theorem dX7_readsKey_44 : decode cX7_readsKey 44 = .ok (.getfield 28, 3) := dk_180 0 28 (dk_at dksX7_readsKey_2 0 rfl rfl)
theorem dX7_readsKey_47 : decode cX7_readsKey 47 = .ok (.iload_n 1, 1) := dk_27 (dk_at dksX7_readsKey_2 3 rfl rfl)
theorem dX7_readsKey_48 : decode cX7_readsKey 48 = .ok (.bipush 25, 2) := dk_16 25 (dk_at dksX7_readsKey_2 4 rfl rfl)
theorem dX7_readsKey_50 : decode cX7_readsKey 50 = .ok (.iload_n 3, 1) := dk_29 (dk_at dksX7_readsKey_2 6 rfl rfl)
theorem dX7_readsKey_51 : decode cX7_readsKey 51 = .ok (.iadd, 1) := dk_96 (dk_at dksX7_readsKey_2 7 rfl rfl)
theorem dX7_readsKey_52 : decode cX7_readsKey 52 = .ok (.invokestatic 142, 3) := dk_184 0 142 (dk_at dksX7_readsKey_2 8 rfl rfl)
theorem dX7_readsKey_55 : decode cX7_readsKey 55 = .ok (.dup2, 1) := dk_92 (dk_at dksX7_readsKey_2 11 rfl rfl)
theorem dX7_readsKey_56 : decode cX7_readsKey 56 = .ok (.iaload, 1) := dk_46 (dk_at dksX7_readsKey_2 12 rfl rfl)
theorem dX7_readsKey_57 : decode cX7_readsKey 57 = .ok (.iload 4, 2) := dk_21 4 (dk_at dksX7_readsKey_2 13 rfl rfl)
theorem dX7_readsKey_59 : decode cX7_readsKey 59 = .ok (.iadd, 1) := dk_96 (dk_at dksX7_readsKey_2 15 rfl rfl)
theorem dX7_readsKey_60 : decode cX7_readsKey 60 = .ok (.iastore, 1) := dk_79 (dk_at dksX7_readsKey_2 16 rfl rfl)
theorem dX7_readsKey_61 : decode cX7_readsKey 61 = .ok (.iload_n 3, 1) := dk_29 (dk_at dksX7_readsKey_2 17 rfl rfl)
theorem dX7_readsKey_62 : decode cX7_readsKey 62 = .ok (.ifCond .le 13, 3) := dk_158 0 13 (dk_at dksX7_readsKey_2 18 rfl rfl)
theorem dX7_readsKey_65 : decode cX7_readsKey 65 = .ok (.aload_n 0, 1) := dk_42 (dk_at dksX7_readsKey_2 21 rfl rfl)
theorem dX7_readsKey_66 : decode cX7_readsKey 66 = .ok (.iload_n 1, 1) := dk_27 (dk_at dksX7_readsKey_2 22 rfl rfl)
theorem dX7_readsKey_67 : decode cX7_readsKey 67 = .ok (.iconst 0, 1) := dk_3 (dk_at dksX7_readsKey_2 23 rfl rfl)
theorem dX7_readsKey_68 : decode cX7_readsKey 68 = .ok (.iload_n 3, 1) := dk_29 (dk_at dksX7_readsKey_3 0 rfl rfl)
theorem dX7_readsKey_69 : decode cX7_readsKey 69 = .ok (.invokevirtual 356, 3) := dk_182 1 100 (dk_at dksX7_readsKey_3 1 rfl rfl)
theorem dX7_readsKey_72 : decode cX7_readsKey 72 = .ok (.goto 26, 3) := dk_167 0 26 (dk_at dksX7_readsKey_3 4 rfl rfl)
theorem dX7_readsKey_75 : decode cX7_readsKey 75 = .ok (.aload_n 0, 1) := dk_42 (dk_at dksX7_readsKey_3 7 rfl rfl)
theorem dX7_readsKey_76 : decode cX7_readsKey 76 = .ok (.getfield 28, 3) := dk_180 0 28 (dk_at dksX7_readsKey_3 8 rfl rfl)
theorem dX7_readsKey_79 : decode cX7_readsKey 79 = .ok (.iload_n 1, 1) := dk_27 (dk_at dksX7_readsKey_3 11 rfl rfl)
theorem dX7_readsKey_80 : decode cX7_readsKey 80 = .ok (.iconst 0, 1) := dk_3 (dk_at dksX7_readsKey_3 12 rfl rfl)
theorem dX7_readsKey_81 : decode cX7_readsKey 81 = .ok (.invokestatic 142, 3) := dk_184 0 142 (dk_at dksX7_readsKey_3 13 rfl rfl)
theorem dX7_readsKey_84 : decode cX7_readsKey 84 = .ok (.iaload, 1) := dk_46 (dk_at dksX7_readsKey_3 16 rfl rfl)
theorem dX7_readsKey_85 : decode cX7_readsKey 85 = .ok (.bipush 24, 2) := dk_16 24 (dk_at dksX7_readsKey_3 17 rfl rfl)
theorem dX7_readsKey_87 : decode cX7_readsKey 87 = .ok (.if_icmp .ne 11, 3) := dk_160 0 11 (dk_at dksX7_readsKey_3 19 rfl rfl)
theorem dX7_readsKey_90 : decode cX7_readsKey 90 = .ok (.aload_n 0, 1) := dk_42 (dk_at dksX7_readsKey_3 22 rfl rfl)
theorem dX7_readsKey_91 : decode cX7_readsKey 91 = .ok (.iload_n 1, 1) := dk_27 (dk_at dksX7_readsKey_3 23 rfl rfl)
theorem dX7_readsKey_92 : decode cX7_readsKey 92 = .ok (.iconst 0, 1) := dk_3 (dk_at dksX7_readsKey_4 0 rfl rfl)
theorem dX7_readsKey_93 : decode cX7_readsKey 93 = .ok (.bipush 24, 2) := dk_16 24 (dk_at dksX7_readsKey_4 1 rfl rfl)
theorem dX7_readsKey_95 : decode cX7_readsKey 95 = .ok (.invokevirtual 356, 3) := dk_182 1 100 (dk_at dksX7_readsKey_4 3 rfl rfl)
theorem dX7_readsKey_98 : decode cX7_readsKey 98 = .ok (.aload_n 0, 1) := dk_42 (dk_at dksX7_readsKey_4 6 rfl rfl)
theorem dX7_readsKey_99 : decode cX7_readsKey 99 = .ok (.iload_n 1, 1) := dk_27 (dk_at dksX7_readsKey_4 7 rfl rfl)
theorem dX7_readsKey_100 : decode cX7_readsKey 100 = .ok (.iconst 0, 1) := dk_3 (dk_at dksX7_readsKey_4 8 rfl rfl)
theorem dX7_readsKey_101 : decode cX7_readsKey 101 = .ok (.iload_n 2, 1) := dk_28 (dk_at dksX7_readsKey_4 9 rfl rfl)
theorem dX7_readsKey_102 : decode cX7_readsKey 102 = .ok (.invokevirtual 360, 3) := dk_182 1 104 (dk_at dksX7_readsKey_4 10 rfl rfl)
theorem dX7_readsKey_105 : decode cX7_readsKey 105 = .ok (.aload_n 0, 1) := dk_42 (dk_at dksX7_readsKey_4 13 rfl rfl)
theorem dX7_readsKey_106 : decode cX7_readsKey 106 = .ok (.getfield 28, 3) := dk_180 0 28 (dk_at dksX7_readsKey_4 14 rfl rfl)
theorem dX7_readsKey_109 : decode cX7_readsKey 109 = .ok (.iload_n 1, 1) := dk_27 (dk_at dksX7_readsKey_4 17 rfl rfl)
theorem dX7_readsKey_110 : decode cX7_readsKey 110 = .ok (.bipush 59, 2) := dk_16 59 (dk_at dksX7_readsKey_4 18 rfl rfl)
theorem dX7_readsKey_112 : decode cX7_readsKey 112 = .ok (.invokestatic 142, 3) := dk_184 0 142 (dk_at dksX7_readsKey_4 20 rfl rfl)
theorem dX7_readsKey_115 : decode cX7_readsKey 115 = .ok (.iaload, 1) := dk_46 (dk_at dksX7_readsKey_4 23 rfl rfl)
theorem dX7_readsKey_116 : decode cX7_readsKey 116 = .ok (.bipush 32, 2) := dk_16 32 (dk_at dksX7_readsKey_5 0 rfl rfl)
theorem dX7_readsKey_118 : decode cX7_readsKey 118 = .ok (.if_icmp .ne 11, 3) := dk_160 0 11 (dk_at dksX7_readsKey_5 2 rfl rfl)
theorem dX7_readsKey_121 : decode cX7_readsKey 121 = .ok (.aload_n 0, 1) := dk_42 (dk_at dksX7_readsKey_5 5 rfl rfl)
theorem dX7_readsKey_122 : decode cX7_readsKey 122 = .ok (.iload_n 1, 1) := dk_27 (dk_at dksX7_readsKey_5 6 rfl rfl)
theorem dX7_readsKey_123 : decode cX7_readsKey 123 = .ok (.bipush 59, 2) := dk_16 59 (dk_at dksX7_readsKey_5 7 rfl rfl)
theorem dX7_readsKey_125 : decode cX7_readsKey 125 = .ok (.iconst 1, 1) := dk_4 (dk_at dksX7_readsKey_5 9 rfl rfl)
theorem dX7_readsKey_126 : decode cX7_readsKey 126 = .ok (.invokevirtual 356, 3) := dk_182 1 100 (dk_at dksX7_readsKey_5 10 rfl rfl)
theorem dX7_readsKey_129 : decode cX7_readsKey 129 = .ok (.aload_n 0, 1) := dk_42 (dk_at dksX7_readsKey_5 13 rfl rfl)
theorem dX7_readsKey_130 : decode cX7_readsKey 130 = .ok (.iload_n 1, 1) := dk_27 (dk_at dksX7_readsKey_5 14 rfl rfl)
theorem dX7_readsKey_131 : decode cX7_readsKey 131 = .ok (.bipush 59, 2) := dk_16 59 (dk_at dksX7_readsKey_5 15 rfl rfl)
theorem dX7_readsKey_133 : decode cX7_readsKey 133 = .ok (.iload_n 2, 1) := dk_28 (dk_at dksX7_readsKey_5 17 rfl rfl)
theorem dX7_readsKey_134 : decode cX7_readsKey 134 = .ok (.invokevirtual 363, 3) := dk_182 1 107 (dk_at dksX7_readsKey_5 18 rfl rfl)
theorem dX7_readsKey_137 : decode cX7_readsKey 137 = .ok (.aload_n 0, 1) := dk_42 (dk_at dksX7_readsKey_5 21 rfl rfl)
theorem dX7_readsKey_138 : decode cX7_readsKey 138 = .ok (.iload_n 2, 1) := dk_28 (dk_at dksX7_readsKey_5 22 rfl rfl)
theorem dX7_readsKey_139 : decode cX7_readsKey 139 = .ok (.invokevirtual 163, 3) := dk_182 0 163 (dk_at dksX7_readsKey_6 0 rfl rfl)
theorem dX7_readsKey_142 : decode cX7_readsKey 142 = .ok (.aload_n 0, 1) := dk_42 (dk_at dksX7_readsKey_6 3 rfl rfl)
theorem dX7_readsKey_143 : decode cX7_readsKey 143 = .ok (.getfield 28, 3) := dk_180 0 28 (dk_at dksX7_readsKey_6 4 rfl rfl)
theorem dX7_readsKey_146 : decode cX7_readsKey 146 = .ok (.iload_n 1, 1) := dk_27 (dk_at dksX7_readsKey_6 7 rfl rfl)
theorem dX7_readsKey_147 : decode cX7_readsKey 147 = .ok (.bipush 58, 2) := dk_16 58 (dk_at dksX7_readsKey_6 8 rfl rfl)
theorem dX7_readsKey_149 : decode cX7_readsKey 149 = .ok (.invokestatic 142, 3) := dk_184 0 142 (dk_at dksX7_readsKey_6 10 rfl rfl)
theorem dX7_readsKey_152 : decode cX7_readsKey 152 = .ok (.iaload, 1) := dk_46 (dk_at dksX7_readsKey_6 13 rfl rfl)
theorem dX7_readsKey_153 : decode cX7_readsKey 153 = .ok (.if_icmp .ge 11, 3) := dk_162 0 11 (dk_at dksX7_readsKey_6 14 rfl rfl)
theorem dX7_readsKey_156 : decode cX7_readsKey 156 = .ok (.aload_n 0, 1) := dk_42 (dk_at dksX7_readsKey_6 17 rfl rfl)
theorem dX7_readsKey_157 : decode cX7_readsKey 157 = .ok (.iload_n 1, 1) := dk_27 (dk_at dksX7_readsKey_6 18 rfl rfl)
theorem dX7_readsKey_158 : decode cX7_readsKey 158 = .ok (.iload_n 2, 1) := dk_28 (dk_at dksX7_readsKey_6 19 rfl rfl)
theorem dX7_readsKey_159 : decode cX7_readsKey 159 = .ok (.iload 4, 2) := dk_21 4 (dk_at dksX7_readsKey_6 20 rfl rfl)
theorem dX7_readsKey_161 : decode cX7_readsKey 161 = .ok (.invokevirtual 366, 3) := dk_182 1 110 (dk_at dksX7_readsKey_7 0 rfl rfl)
theorem dX7_readsKey_164 : decode cX7_readsKey 164 = .ok (.iload_n 3, 1) := dk_29 (dk_at dksX7_readsKey_7 3 rfl rfl)
theorem dX7_readsKey_165 : decode cX7_readsKey 165 = .ok (.ireturn, 1) := dk_172 (dk_at dksX7_readsKey_7 4 rfl rfl)
abbrev cX7_goesOut : ByteArray := prog_32_method_73_code
def yX7_goesOut : MethodName := ⟨RX7, "goesOut", "(III)V"⟩
def dkwX7_goesOut_3 : List UInt8 := [79, 177]
abbrev dktX7_goesOut_3 : List UInt8 := dkwX7_goesOut_3 ++ []
def dkwX7_goesOut_2 : List UInt8 := [184, 0, 142, 46, 79, 132, 5, 1, 167, 255, 218, 42, 180, 0, 28, 27, 28, 184, 0, 142, 21, 4, 4, 100]
abbrev dktX7_goesOut_2 : List UInt8 := dkwX7_goesOut_2 ++ dktX7_goesOut_3
def dkwX7_goesOut_1 : List UInt8 := [180, 0, 28, 27, 28, 21, 5, 96, 184, 0, 142, 42, 180, 0, 28, 27, 28, 21, 5, 96, 4, 96]
abbrev dktX7_goesOut_1 : List UInt8 := dkwX7_goesOut_1 ++ dktX7_goesOut_2
def dkwX7_goesOut_0 : List UInt8 := [42, 180, 0, 28, 27, 28, 184, 0, 142, 46, 54, 4, 29, 54, 5, 21, 5, 21, 4, 162, 0, 37, 42]
abbrev dktX7_goesOut_0 : List UInt8 := dkwX7_goesOut_0 ++ dktX7_goesOut_1
theorem dksX7_goesOut_0 : cX7_goesOut.data.toList.drop 0 = dktX7_goesOut_0 := by decide +kernel
theorem dksX7_goesOut_1 : cX7_goesOut.data.toList.drop 23 = dktX7_goesOut_1 := dk_seg dksX7_goesOut_0 23 rfl rfl
theorem dksX7_goesOut_2 : cX7_goesOut.data.toList.drop 45 = dktX7_goesOut_2 := dk_seg dksX7_goesOut_1 22 rfl rfl
theorem dksX7_goesOut_3 : cX7_goesOut.data.toList.drop 69 = dktX7_goesOut_3 := dk_seg dksX7_goesOut_2 24 rfl rfl
theorem dX7_goesOut_0 : decode cX7_goesOut 0 = .ok (.aload_n 0, 1) := dk_42 (dk_at dksX7_goesOut_0 0 rfl rfl)
theorem dX7_goesOut_1 : decode cX7_goesOut 1 = .ok (.getfield 28, 3) := dk_180 0 28 (dk_at dksX7_goesOut_0 1 rfl rfl)
theorem dX7_goesOut_4 : decode cX7_goesOut 4 = .ok (.iload_n 1, 1) := dk_27 (dk_at dksX7_goesOut_0 4 rfl rfl)
theorem dX7_goesOut_5 : decode cX7_goesOut 5 = .ok (.iload_n 2, 1) := dk_28 (dk_at dksX7_goesOut_0 5 rfl rfl)
theorem dX7_goesOut_6 : decode cX7_goesOut 6 = .ok (.invokestatic 142, 3) := dk_184 0 142 (dk_at dksX7_goesOut_0 6 rfl rfl)
theorem dX7_goesOut_9 : decode cX7_goesOut 9 = .ok (.iaload, 1) := dk_46 (dk_at dksX7_goesOut_0 9 rfl rfl)
theorem dX7_goesOut_10 : decode cX7_goesOut 10 = .ok (.istore 4, 2) := dk_54 4 (dk_at dksX7_goesOut_0 10 rfl rfl)
theorem dX7_goesOut_12 : decode cX7_goesOut 12 = .ok (.iload_n 3, 1) := dk_29 (dk_at dksX7_goesOut_0 12 rfl rfl)
theorem dX7_goesOut_13 : decode cX7_goesOut 13 = .ok (.istore 5, 2) := dk_54 5 (dk_at dksX7_goesOut_0 13 rfl rfl)
theorem dX7_goesOut_15 : decode cX7_goesOut 15 = .ok (.iload 5, 2) := dk_21 5 (dk_at dksX7_goesOut_0 15 rfl rfl)
theorem dX7_goesOut_17 : decode cX7_goesOut 17 = .ok (.iload 4, 2) := dk_21 4 (dk_at dksX7_goesOut_0 17 rfl rfl)
theorem dX7_goesOut_19 : decode cX7_goesOut 19 = .ok (.if_icmp .ge 37, 3) := dk_162 0 37 (dk_at dksX7_goesOut_0 19 rfl rfl)
theorem dX7_goesOut_22 : decode cX7_goesOut 22 = .ok (.aload_n 0, 1) := dk_42 (dk_at dksX7_goesOut_0 22 rfl rfl)
theorem dX7_goesOut_23 : decode cX7_goesOut 23 = .ok (.getfield 28, 3) := dk_180 0 28 (dk_at dksX7_goesOut_1 0 rfl rfl)
theorem dX7_goesOut_26 : decode cX7_goesOut 26 = .ok (.iload_n 1, 1) := dk_27 (dk_at dksX7_goesOut_1 3 rfl rfl)
theorem dX7_goesOut_27 : decode cX7_goesOut 27 = .ok (.iload_n 2, 1) := dk_28 (dk_at dksX7_goesOut_1 4 rfl rfl)
theorem dX7_goesOut_28 : decode cX7_goesOut 28 = .ok (.iload 5, 2) := dk_21 5 (dk_at dksX7_goesOut_1 5 rfl rfl)
theorem dX7_goesOut_30 : decode cX7_goesOut 30 = .ok (.iadd, 1) := dk_96 (dk_at dksX7_goesOut_1 7 rfl rfl)
theorem dX7_goesOut_31 : decode cX7_goesOut 31 = .ok (.invokestatic 142, 3) := dk_184 0 142 (dk_at dksX7_goesOut_1 8 rfl rfl)
theorem dX7_goesOut_34 : decode cX7_goesOut 34 = .ok (.aload_n 0, 1) := dk_42 (dk_at dksX7_goesOut_1 11 rfl rfl)
theorem dX7_goesOut_35 : decode cX7_goesOut 35 = .ok (.getfield 28, 3) := dk_180 0 28 (dk_at dksX7_goesOut_1 12 rfl rfl)
theorem dX7_goesOut_38 : decode cX7_goesOut 38 = .ok (.iload_n 1, 1) := dk_27 (dk_at dksX7_goesOut_1 15 rfl rfl)
theorem dX7_goesOut_39 : decode cX7_goesOut 39 = .ok (.iload_n 2, 1) := dk_28 (dk_at dksX7_goesOut_1 16 rfl rfl)
theorem dX7_goesOut_40 : decode cX7_goesOut 40 = .ok (.iload 5, 2) := dk_21 5 (dk_at dksX7_goesOut_1 17 rfl rfl)
theorem dX7_goesOut_42 : decode cX7_goesOut 42 = .ok (.iadd, 1) := dk_96 (dk_at dksX7_goesOut_1 19 rfl rfl)
theorem dX7_goesOut_43 : decode cX7_goesOut 43 = .ok (.iconst 1, 1) := dk_4 (dk_at dksX7_goesOut_1 20 rfl rfl)
theorem dX7_goesOut_44 : decode cX7_goesOut 44 = .ok (.iadd, 1) := dk_96 (dk_at dksX7_goesOut_1 21 rfl rfl)
theorem dX7_goesOut_45 : decode cX7_goesOut 45 = .ok (.invokestatic 142, 3) := dk_184 0 142 (dk_at dksX7_goesOut_2 0 rfl rfl)
theorem dX7_goesOut_48 : decode cX7_goesOut 48 = .ok (.iaload, 1) := dk_46 (dk_at dksX7_goesOut_2 3 rfl rfl)
theorem dX7_goesOut_49 : decode cX7_goesOut 49 = .ok (.iastore, 1) := dk_79 (dk_at dksX7_goesOut_2 4 rfl rfl)
theorem dX7_goesOut_50 : decode cX7_goesOut 50 = .ok (.iinc 5 1, 3) := dk_132 5 1 (dk_at dksX7_goesOut_2 5 rfl rfl)
theorem dX7_goesOut_53 : decode cX7_goesOut 53 = .ok (.goto (-38), 3) := dk_167 255 218 (dk_at dksX7_goesOut_2 8 rfl rfl)
theorem dX7_goesOut_56 : decode cX7_goesOut 56 = .ok (.aload_n 0, 1) := dk_42 (dk_at dksX7_goesOut_2 11 rfl rfl)
theorem dX7_goesOut_57 : decode cX7_goesOut 57 = .ok (.getfield 28, 3) := dk_180 0 28 (dk_at dksX7_goesOut_2 12 rfl rfl)
theorem dX7_goesOut_60 : decode cX7_goesOut 60 = .ok (.iload_n 1, 1) := dk_27 (dk_at dksX7_goesOut_2 15 rfl rfl)
theorem dX7_goesOut_61 : decode cX7_goesOut 61 = .ok (.iload_n 2, 1) := dk_28 (dk_at dksX7_goesOut_2 16 rfl rfl)
theorem dX7_goesOut_62 : decode cX7_goesOut 62 = .ok (.invokestatic 142, 3) := dk_184 0 142 (dk_at dksX7_goesOut_2 17 rfl rfl)
theorem dX7_goesOut_65 : decode cX7_goesOut 65 = .ok (.iload 4, 2) := dk_21 4 (dk_at dksX7_goesOut_2 20 rfl rfl)
theorem dX7_goesOut_67 : decode cX7_goesOut 67 = .ok (.iconst 1, 1) := dk_4 (dk_at dksX7_goesOut_2 22 rfl rfl)
theorem dX7_goesOut_68 : decode cX7_goesOut 68 = .ok (.isub, 1) := dk_100 (dk_at dksX7_goesOut_2 23 rfl rfl)
theorem dX7_goesOut_69 : decode cX7_goesOut 69 = .ok (.iastore, 1) := dk_79 (dk_at dksX7_goesOut_3 0 rfl rfl)
theorem dX7_goesOut_70 : decode cX7_goesOut 70 = .ok (.return_, 1) := dk_177 (dk_at dksX7_goesOut_3 1 rfl rfl)
abbrev cX7_comesFirst : ByteArray := prog_32_method_74_code
def yX7_comesFirst : MethodName := ⟨RX7, "comesFirst", "(III)V"⟩
def dkwX7_comesFirst_3 : List UInt8 := [42, 180, 0, 28, 27, 28, 184, 0, 142, 21, 4, 4, 96, 79, 177]
abbrev dktX7_comesFirst_3 : List UInt8 := dkwX7_comesFirst_3 ++ []
def dkwX7_comesFirst_2 : List UInt8 := [184, 0, 142, 46, 79, 132, 5, 255, 167, 255, 219, 42, 180, 0, 28, 27, 28, 4, 96, 184, 0, 142, 29, 79]
abbrev dktX7_comesFirst_2 : List UInt8 := dkwX7_comesFirst_2 ++ dktX7_comesFirst_3
def dkwX7_comesFirst_1 : List UInt8 := [180, 0, 28, 27, 28, 21, 5, 96, 4, 96, 184, 0, 142, 42, 180, 0, 28, 27, 28, 21, 5, 96]
abbrev dktX7_comesFirst_1 : List UInt8 := dkwX7_comesFirst_1 ++ dktX7_comesFirst_2
def dkwX7_comesFirst_0 : List UInt8 := [42, 180, 0, 28, 27, 28, 184, 0, 142, 46, 54, 4, 21, 4, 54, 5, 21, 5, 4, 161, 0, 37, 42]
abbrev dktX7_comesFirst_0 : List UInt8 := dkwX7_comesFirst_0 ++ dktX7_comesFirst_1
theorem dksX7_comesFirst_0 : cX7_comesFirst.data.toList.drop 0 = dktX7_comesFirst_0 := by decide +kernel
theorem dksX7_comesFirst_1 : cX7_comesFirst.data.toList.drop 23 = dktX7_comesFirst_1 := dk_seg dksX7_comesFirst_0 23 rfl rfl
theorem dksX7_comesFirst_2 : cX7_comesFirst.data.toList.drop 45 = dktX7_comesFirst_2 := dk_seg dksX7_comesFirst_1 22 rfl rfl
theorem dksX7_comesFirst_3 : cX7_comesFirst.data.toList.drop 69 = dktX7_comesFirst_3 := dk_seg dksX7_comesFirst_2 24 rfl rfl
theorem dX7_comesFirst_0 : decode cX7_comesFirst 0 = .ok (.aload_n 0, 1) := dk_42 (dk_at dksX7_comesFirst_0 0 rfl rfl)
theorem dX7_comesFirst_1 : decode cX7_comesFirst 1 = .ok (.getfield 28, 3) := dk_180 0 28 (dk_at dksX7_comesFirst_0 1 rfl rfl)
theorem dX7_comesFirst_4 : decode cX7_comesFirst 4 = .ok (.iload_n 1, 1) := dk_27 (dk_at dksX7_comesFirst_0 4 rfl rfl)
theorem dX7_comesFirst_5 : decode cX7_comesFirst 5 = .ok (.iload_n 2, 1) := dk_28 (dk_at dksX7_comesFirst_0 5 rfl rfl)
theorem dX7_comesFirst_6 : decode cX7_comesFirst 6 = .ok (.invokestatic 142, 3) := dk_184 0 142 (dk_at dksX7_comesFirst_0 6 rfl rfl)
theorem dX7_comesFirst_9 : decode cX7_comesFirst 9 = .ok (.iaload, 1) := dk_46 (dk_at dksX7_comesFirst_0 9 rfl rfl)
theorem dX7_comesFirst_10 : decode cX7_comesFirst 10 = .ok (.istore 4, 2) := dk_54 4 (dk_at dksX7_comesFirst_0 10 rfl rfl)
theorem dX7_comesFirst_12 : decode cX7_comesFirst 12 = .ok (.iload 4, 2) := dk_21 4 (dk_at dksX7_comesFirst_0 12 rfl rfl)
theorem dX7_comesFirst_14 : decode cX7_comesFirst 14 = .ok (.istore 5, 2) := dk_54 5 (dk_at dksX7_comesFirst_0 14 rfl rfl)
theorem dX7_comesFirst_16 : decode cX7_comesFirst 16 = .ok (.iload 5, 2) := dk_21 5 (dk_at dksX7_comesFirst_0 16 rfl rfl)
theorem dX7_comesFirst_18 : decode cX7_comesFirst 18 = .ok (.iconst 1, 1) := dk_4 (dk_at dksX7_comesFirst_0 18 rfl rfl)
theorem dX7_comesFirst_19 : decode cX7_comesFirst 19 = .ok (.if_icmp .lt 37, 3) := dk_161 0 37 (dk_at dksX7_comesFirst_0 19 rfl rfl)
theorem dX7_comesFirst_22 : decode cX7_comesFirst 22 = .ok (.aload_n 0, 1) := dk_42 (dk_at dksX7_comesFirst_0 22 rfl rfl)
theorem dX7_comesFirst_23 : decode cX7_comesFirst 23 = .ok (.getfield 28, 3) := dk_180 0 28 (dk_at dksX7_comesFirst_1 0 rfl rfl)
theorem dX7_comesFirst_26 : decode cX7_comesFirst 26 = .ok (.iload_n 1, 1) := dk_27 (dk_at dksX7_comesFirst_1 3 rfl rfl)
theorem dX7_comesFirst_27 : decode cX7_comesFirst 27 = .ok (.iload_n 2, 1) := dk_28 (dk_at dksX7_comesFirst_1 4 rfl rfl)
theorem dX7_comesFirst_28 : decode cX7_comesFirst 28 = .ok (.iload 5, 2) := dk_21 5 (dk_at dksX7_comesFirst_1 5 rfl rfl)
theorem dX7_comesFirst_30 : decode cX7_comesFirst 30 = .ok (.iadd, 1) := dk_96 (dk_at dksX7_comesFirst_1 7 rfl rfl)
theorem dX7_comesFirst_31 : decode cX7_comesFirst 31 = .ok (.iconst 1, 1) := dk_4 (dk_at dksX7_comesFirst_1 8 rfl rfl)
theorem dX7_comesFirst_32 : decode cX7_comesFirst 32 = .ok (.iadd, 1) := dk_96 (dk_at dksX7_comesFirst_1 9 rfl rfl)
theorem dX7_comesFirst_33 : decode cX7_comesFirst 33 = .ok (.invokestatic 142, 3) := dk_184 0 142 (dk_at dksX7_comesFirst_1 10 rfl rfl)
theorem dX7_comesFirst_36 : decode cX7_comesFirst 36 = .ok (.aload_n 0, 1) := dk_42 (dk_at dksX7_comesFirst_1 13 rfl rfl)
theorem dX7_comesFirst_37 : decode cX7_comesFirst 37 = .ok (.getfield 28, 3) := dk_180 0 28 (dk_at dksX7_comesFirst_1 14 rfl rfl)
theorem dX7_comesFirst_40 : decode cX7_comesFirst 40 = .ok (.iload_n 1, 1) := dk_27 (dk_at dksX7_comesFirst_1 17 rfl rfl)
theorem dX7_comesFirst_41 : decode cX7_comesFirst 41 = .ok (.iload_n 2, 1) := dk_28 (dk_at dksX7_comesFirst_1 18 rfl rfl)
theorem dX7_comesFirst_42 : decode cX7_comesFirst 42 = .ok (.iload 5, 2) := dk_21 5 (dk_at dksX7_comesFirst_1 19 rfl rfl)
theorem dX7_comesFirst_44 : decode cX7_comesFirst 44 = .ok (.iadd, 1) := dk_96 (dk_at dksX7_comesFirst_1 21 rfl rfl)
theorem dX7_comesFirst_45 : decode cX7_comesFirst 45 = .ok (.invokestatic 142, 3) := dk_184 0 142 (dk_at dksX7_comesFirst_2 0 rfl rfl)
theorem dX7_comesFirst_48 : decode cX7_comesFirst 48 = .ok (.iaload, 1) := dk_46 (dk_at dksX7_comesFirst_2 3 rfl rfl)
theorem dX7_comesFirst_49 : decode cX7_comesFirst 49 = .ok (.iastore, 1) := dk_79 (dk_at dksX7_comesFirst_2 4 rfl rfl)
theorem dX7_comesFirst_50 : decode cX7_comesFirst 50 = .ok (.iinc 5 (-1), 3) := dk_132 5 255 (dk_at dksX7_comesFirst_2 5 rfl rfl)
theorem dX7_comesFirst_53 : decode cX7_comesFirst 53 = .ok (.goto (-37), 3) := dk_167 255 219 (dk_at dksX7_comesFirst_2 8 rfl rfl)
theorem dX7_comesFirst_56 : decode cX7_comesFirst 56 = .ok (.aload_n 0, 1) := dk_42 (dk_at dksX7_comesFirst_2 11 rfl rfl)
theorem dX7_comesFirst_57 : decode cX7_comesFirst 57 = .ok (.getfield 28, 3) := dk_180 0 28 (dk_at dksX7_comesFirst_2 12 rfl rfl)
theorem dX7_comesFirst_60 : decode cX7_comesFirst 60 = .ok (.iload_n 1, 1) := dk_27 (dk_at dksX7_comesFirst_2 15 rfl rfl)
theorem dX7_comesFirst_61 : decode cX7_comesFirst 61 = .ok (.iload_n 2, 1) := dk_28 (dk_at dksX7_comesFirst_2 16 rfl rfl)
theorem dX7_comesFirst_62 : decode cX7_comesFirst 62 = .ok (.iconst 1, 1) := dk_4 (dk_at dksX7_comesFirst_2 17 rfl rfl)
theorem dX7_comesFirst_63 : decode cX7_comesFirst 63 = .ok (.iadd, 1) := dk_96 (dk_at dksX7_comesFirst_2 18 rfl rfl)
theorem dX7_comesFirst_64 : decode cX7_comesFirst 64 = .ok (.invokestatic 142, 3) := dk_184 0 142 (dk_at dksX7_comesFirst_2 19 rfl rfl)
theorem dX7_comesFirst_67 : decode cX7_comesFirst 67 = .ok (.iload_n 3, 1) := dk_29 (dk_at dksX7_comesFirst_2 22 rfl rfl)
theorem dX7_comesFirst_68 : decode cX7_comesFirst 68 = .ok (.iastore, 1) := dk_79 (dk_at dksX7_comesFirst_2 23 rfl rfl)
theorem dX7_comesFirst_69 : decode cX7_comesFirst 69 = .ok (.aload_n 0, 1) := dk_42 (dk_at dksX7_comesFirst_3 0 rfl rfl)
theorem dX7_comesFirst_70 : decode cX7_comesFirst 70 = .ok (.getfield 28, 3) := dk_180 0 28 (dk_at dksX7_comesFirst_3 1 rfl rfl)
theorem dX7_comesFirst_73 : decode cX7_comesFirst 73 = .ok (.iload_n 1, 1) := dk_27 (dk_at dksX7_comesFirst_3 4 rfl rfl)
theorem dX7_comesFirst_74 : decode cX7_comesFirst 74 = .ok (.iload_n 2, 1) := dk_28 (dk_at dksX7_comesFirst_3 5 rfl rfl)
theorem dX7_comesFirst_75 : decode cX7_comesFirst 75 = .ok (.invokestatic 142, 3) := dk_184 0 142 (dk_at dksX7_comesFirst_3 6 rfl rfl)
theorem dX7_comesFirst_78 : decode cX7_comesFirst 78 = .ok (.iload 4, 2) := dk_21 4 (dk_at dksX7_comesFirst_3 9 rfl rfl)
theorem dX7_comesFirst_80 : decode cX7_comesFirst 80 = .ok (.iconst 1, 1) := dk_4 (dk_at dksX7_comesFirst_3 11 rfl rfl)
theorem dX7_comesFirst_81 : decode cX7_comesFirst 81 = .ok (.iadd, 1) := dk_96 (dk_at dksX7_comesFirst_3 12 rfl rfl)
theorem dX7_comesFirst_82 : decode cX7_comesFirst 82 = .ok (.iastore, 1) := dk_79 (dk_at dksX7_comesFirst_3 13 rfl rfl)
theorem dX7_comesFirst_83 : decode cX7_comesFirst 83 = .ok (.return_, 1) := dk_177 (dk_at dksX7_comesFirst_3 14 rfl rfl)
abbrev cX7_comesLast : ByteArray := prog_32_method_75_code
def yX7_comesLast : MethodName := ⟨RX7, "comesLast", "(III)V"⟩
def dkwX7_comesLast_1 : List UInt8 := [184, 0, 142, 29, 79, 42, 180, 0, 28, 27, 28, 184, 0, 142, 21, 4, 79, 177]
abbrev dktX7_comesLast_1 : List UInt8 := dkwX7_comesLast_1 ++ []
def dkwX7_comesLast_0 : List UInt8 := [42, 180, 0, 28, 27, 28, 184, 0, 142, 46, 4, 96, 54, 4, 42, 180, 0, 28, 27, 28, 21, 4, 96]
abbrev dktX7_comesLast_0 : List UInt8 := dkwX7_comesLast_0 ++ dktX7_comesLast_1
theorem dksX7_comesLast_0 : cX7_comesLast.data.toList.drop 0 = dktX7_comesLast_0 := by decide +kernel
theorem dksX7_comesLast_1 : cX7_comesLast.data.toList.drop 23 = dktX7_comesLast_1 := dk_seg dksX7_comesLast_0 23 rfl rfl
theorem dX7_comesLast_0 : decode cX7_comesLast 0 = .ok (.aload_n 0, 1) := dk_42 (dk_at dksX7_comesLast_0 0 rfl rfl)
theorem dX7_comesLast_1 : decode cX7_comesLast 1 = .ok (.getfield 28, 3) := dk_180 0 28 (dk_at dksX7_comesLast_0 1 rfl rfl)
theorem dX7_comesLast_4 : decode cX7_comesLast 4 = .ok (.iload_n 1, 1) := dk_27 (dk_at dksX7_comesLast_0 4 rfl rfl)
theorem dX7_comesLast_5 : decode cX7_comesLast 5 = .ok (.iload_n 2, 1) := dk_28 (dk_at dksX7_comesLast_0 5 rfl rfl)
theorem dX7_comesLast_6 : decode cX7_comesLast 6 = .ok (.invokestatic 142, 3) := dk_184 0 142 (dk_at dksX7_comesLast_0 6 rfl rfl)
theorem dX7_comesLast_9 : decode cX7_comesLast 9 = .ok (.iaload, 1) := dk_46 (dk_at dksX7_comesLast_0 9 rfl rfl)
theorem dX7_comesLast_10 : decode cX7_comesLast 10 = .ok (.iconst 1, 1) := dk_4 (dk_at dksX7_comesLast_0 10 rfl rfl)
theorem dX7_comesLast_11 : decode cX7_comesLast 11 = .ok (.iadd, 1) := dk_96 (dk_at dksX7_comesLast_0 11 rfl rfl)
theorem dX7_comesLast_12 : decode cX7_comesLast 12 = .ok (.istore 4, 2) := dk_54 4 (dk_at dksX7_comesLast_0 12 rfl rfl)
theorem dX7_comesLast_14 : decode cX7_comesLast 14 = .ok (.aload_n 0, 1) := dk_42 (dk_at dksX7_comesLast_0 14 rfl rfl)
theorem dX7_comesLast_15 : decode cX7_comesLast 15 = .ok (.getfield 28, 3) := dk_180 0 28 (dk_at dksX7_comesLast_0 15 rfl rfl)
theorem dX7_comesLast_18 : decode cX7_comesLast 18 = .ok (.iload_n 1, 1) := dk_27 (dk_at dksX7_comesLast_0 18 rfl rfl)
theorem dX7_comesLast_19 : decode cX7_comesLast 19 = .ok (.iload_n 2, 1) := dk_28 (dk_at dksX7_comesLast_0 19 rfl rfl)
theorem dX7_comesLast_20 : decode cX7_comesLast 20 = .ok (.iload 4, 2) := dk_21 4 (dk_at dksX7_comesLast_0 20 rfl rfl)
theorem dX7_comesLast_22 : decode cX7_comesLast 22 = .ok (.iadd, 1) := dk_96 (dk_at dksX7_comesLast_0 22 rfl rfl)
theorem dX7_comesLast_23 : decode cX7_comesLast 23 = .ok (.invokestatic 142, 3) := dk_184 0 142 (dk_at dksX7_comesLast_1 0 rfl rfl)
theorem dX7_comesLast_26 : decode cX7_comesLast 26 = .ok (.iload_n 3, 1) := dk_29 (dk_at dksX7_comesLast_1 3 rfl rfl)
theorem dX7_comesLast_27 : decode cX7_comesLast 27 = .ok (.iastore, 1) := dk_79 (dk_at dksX7_comesLast_1 4 rfl rfl)
theorem dX7_comesLast_28 : decode cX7_comesLast 28 = .ok (.aload_n 0, 1) := dk_42 (dk_at dksX7_comesLast_1 5 rfl rfl)
theorem dX7_comesLast_29 : decode cX7_comesLast 29 = .ok (.getfield 28, 3) := dk_180 0 28 (dk_at dksX7_comesLast_1 6 rfl rfl)
theorem dX7_comesLast_32 : decode cX7_comesLast 32 = .ok (.iload_n 1, 1) := dk_27 (dk_at dksX7_comesLast_1 9 rfl rfl)
theorem dX7_comesLast_33 : decode cX7_comesLast 33 = .ok (.iload_n 2, 1) := dk_28 (dk_at dksX7_comesLast_1 10 rfl rfl)
theorem dX7_comesLast_34 : decode cX7_comesLast 34 = .ok (.invokestatic 142, 3) := dk_184 0 142 (dk_at dksX7_comesLast_1 11 rfl rfl)
theorem dX7_comesLast_37 : decode cX7_comesLast 37 = .ok (.iload 4, 2) := dk_21 4 (dk_at dksX7_comesLast_1 14 rfl rfl)
theorem dX7_comesLast_39 : decode cX7_comesLast 39 = .ok (.iastore, 1) := dk_79 (dk_at dksX7_comesLast_1 16 rfl rfl)
theorem dX7_comesLast_40 : decode cX7_comesLast 40 = .ok (.return_, 1) := dk_177 (dk_at dksX7_comesLast_1 17 rfl rfl)
abbrev cX7_samples : ByteArray := prog_32_method_77_code
def yX7_samples : MethodName := ⟨RX7, "samples", "(III)V"⟩
def dkwX7_samples_4 : List UInt8 := [180, 0, 28, 27, 16, 50, 184, 0, 142, 46, 16, 6, 164, 0, 8, 42, 27, 182, 1, 115, 177]
abbrev dktX7_samples_4 : List UInt8 := dkwX7_samples_4 ++ []
def dkwX7_samples_3 : List UInt8 := [21, 5, 158, 0, 12, 42, 27, 16, 50, 21, 5, 182, 1, 100, 42, 27, 16, 50, 28, 182, 1, 104, 42]
abbrev dktX7_samples_3 : List UInt8 := dkwX7_samples_3 ++ dktX7_samples_4
def dkwX7_samples_2 : List UInt8 := [164, 0, 7, 3, 167, 0, 5, 21, 6, 96, 92, 47, 20, 1, 113, 29, 133, 105, 21, 4, 133, 109, 97, 80]
abbrev dktX7_samples_2 : List UInt8 := dkwX7_samples_2 ++ dktX7_samples_3
def dkwX7_samples_1 : List UInt8 := [21, 5, 17, 3, 232, 104, 21, 4, 108, 54, 6, 42, 180, 0, 31, 16, 25, 27, 104, 21, 6, 16, 24]
abbrev dktX7_samples_1 : List UInt8 := dkwX7_samples_1 ++ dktX7_samples_2
def dkwX7_samples_0 : List UInt8 := [42, 180, 0, 28, 27, 16, 58, 184, 0, 142, 46, 54, 4, 42, 27, 16, 50, 28, 182, 0, 159, 54, 5]
abbrev dktX7_samples_0 : List UInt8 := dkwX7_samples_0 ++ dktX7_samples_1
theorem dksX7_samples_0 : cX7_samples.data.toList.drop 0 = dktX7_samples_0 := by decide +kernel
theorem dksX7_samples_1 : cX7_samples.data.toList.drop 23 = dktX7_samples_1 := dk_seg dksX7_samples_0 23 rfl rfl
theorem dksX7_samples_2 : cX7_samples.data.toList.drop 46 = dktX7_samples_2 := dk_seg dksX7_samples_1 23 rfl rfl
theorem dksX7_samples_3 : cX7_samples.data.toList.drop 70 = dktX7_samples_3 := dk_seg dksX7_samples_2 24 rfl rfl
theorem dksX7_samples_4 : cX7_samples.data.toList.drop 93 = dktX7_samples_4 := dk_seg dksX7_samples_3 23 rfl rfl
theorem dX7_samples_0 : decode cX7_samples 0 = .ok (.aload_n 0, 1) := dk_42 (dk_at dksX7_samples_0 0 rfl rfl)
theorem dX7_samples_1 : decode cX7_samples 1 = .ok (.getfield 28, 3) := dk_180 0 28 (dk_at dksX7_samples_0 1 rfl rfl)
theorem dX7_samples_4 : decode cX7_samples 4 = .ok (.iload_n 1, 1) := dk_27 (dk_at dksX7_samples_0 4 rfl rfl)
theorem dX7_samples_5 : decode cX7_samples 5 = .ok (.bipush 58, 2) := dk_16 58 (dk_at dksX7_samples_0 5 rfl rfl)
theorem dX7_samples_7 : decode cX7_samples 7 = .ok (.invokestatic 142, 3) := dk_184 0 142 (dk_at dksX7_samples_0 7 rfl rfl)
theorem dX7_samples_10 : decode cX7_samples 10 = .ok (.iaload, 1) := dk_46 (dk_at dksX7_samples_0 10 rfl rfl)
theorem dX7_samples_11 : decode cX7_samples 11 = .ok (.istore 4, 2) := dk_54 4 (dk_at dksX7_samples_0 11 rfl rfl)
theorem dX7_samples_13 : decode cX7_samples 13 = .ok (.aload_n 0, 1) := dk_42 (dk_at dksX7_samples_0 13 rfl rfl)
theorem dX7_samples_14 : decode cX7_samples 14 = .ok (.iload_n 1, 1) := dk_27 (dk_at dksX7_samples_0 14 rfl rfl)
theorem dX7_samples_15 : decode cX7_samples 15 = .ok (.bipush 50, 2) := dk_16 50 (dk_at dksX7_samples_0 15 rfl rfl)
theorem dX7_samples_17 : decode cX7_samples 17 = .ok (.iload_n 2, 1) := dk_28 (dk_at dksX7_samples_0 17 rfl rfl)
theorem dX7_samples_18 : decode cX7_samples 18 = .ok (.invokevirtual 159, 3) := dk_182 0 159 (dk_at dksX7_samples_0 18 rfl rfl)
theorem dX7_samples_21 : decode cX7_samples 21 = .ok (.istore 5, 2) := dk_54 5 (dk_at dksX7_samples_0 21 rfl rfl)
theorem dX7_samples_23 : decode cX7_samples 23 = .ok (.iload 5, 2) := dk_21 5 (dk_at dksX7_samples_1 0 rfl rfl)
theorem dX7_samples_25 : decode cX7_samples 25 = .ok (.sipush 1000, 3) := dk_17 3 232 (dk_at dksX7_samples_1 2 rfl rfl)
theorem dX7_samples_28 : decode cX7_samples 28 = .ok (.imul, 1) := dk_104 (dk_at dksX7_samples_1 5 rfl rfl)
theorem dX7_samples_29 : decode cX7_samples 29 = .ok (.iload 4, 2) := dk_21 4 (dk_at dksX7_samples_1 6 rfl rfl)
theorem dX7_samples_31 : decode cX7_samples 31 = .ok (.idiv, 1) := dk_108 (dk_at dksX7_samples_1 8 rfl rfl)
theorem dX7_samples_32 : decode cX7_samples 32 = .ok (.istore 6, 2) := dk_54 6 (dk_at dksX7_samples_1 9 rfl rfl)
theorem dX7_samples_34 : decode cX7_samples 34 = .ok (.aload_n 0, 1) := dk_42 (dk_at dksX7_samples_1 11 rfl rfl)
theorem dX7_samples_35 : decode cX7_samples 35 = .ok (.getfield 31, 3) := dk_180 0 31 (dk_at dksX7_samples_1 12 rfl rfl)
theorem dX7_samples_38 : decode cX7_samples 38 = .ok (.bipush 25, 2) := dk_16 25 (dk_at dksX7_samples_1 15 rfl rfl)
theorem dX7_samples_40 : decode cX7_samples 40 = .ok (.iload_n 1, 1) := dk_27 (dk_at dksX7_samples_1 17 rfl rfl)
theorem dX7_samples_41 : decode cX7_samples 41 = .ok (.imul, 1) := dk_104 (dk_at dksX7_samples_1 18 rfl rfl)
theorem dX7_samples_42 : decode cX7_samples 42 = .ok (.iload 6, 2) := dk_21 6 (dk_at dksX7_samples_1 19 rfl rfl)
theorem dX7_samples_44 : decode cX7_samples 44 = .ok (.bipush 24, 2) := dk_16 24 (dk_at dksX7_samples_1 21 rfl rfl)
theorem dX7_samples_46 : decode cX7_samples 46 = .ok (.if_icmp .le 7, 3) := dk_164 0 7 (dk_at dksX7_samples_2 0 rfl rfl)
theorem dX7_samples_49 : decode cX7_samples 49 = .ok (.iconst 0, 1) := dk_3 (dk_at dksX7_samples_2 3 rfl rfl)
theorem dX7_samples_50 : decode cX7_samples 50 = .ok (.goto 5, 3) := dk_167 0 5 (dk_at dksX7_samples_2 4 rfl rfl)
theorem dX7_samples_53 : decode cX7_samples 53 = .ok (.iload 6, 2) := dk_21 6 (dk_at dksX7_samples_2 7 rfl rfl)
theorem dX7_samples_55 : decode cX7_samples 55 = .ok (.iadd, 1) := dk_96 (dk_at dksX7_samples_2 9 rfl rfl)
theorem dX7_samples_56 : decode cX7_samples 56 = .ok (.dup2, 1) := dk_92 (dk_at dksX7_samples_2 10 rfl rfl)
theorem dX7_samples_57 : decode cX7_samples 57 = .ok (.laload, 1) := dk_47 (dk_at dksX7_samples_2 11 rfl rfl)
theorem dX7_samples_58 : decode cX7_samples 58 = .ok (.ldc2_w 369, 3) := dk_20 1 113 (dk_at dksX7_samples_2 12 rfl rfl)
theorem dX7_samples_61 : decode cX7_samples 61 = .ok (.iload_n 3, 1) := dk_29 (dk_at dksX7_samples_2 15 rfl rfl)
theorem dX7_samples_62 : decode cX7_samples 62 = .ok (.i2l, 1) := dk_133 (dk_at dksX7_samples_2 16 rfl rfl)
theorem dX7_samples_63 : decode cX7_samples 63 = .ok (.lmul, 1) := dk_105 (dk_at dksX7_samples_2 17 rfl rfl)
theorem dX7_samples_64 : decode cX7_samples 64 = .ok (.iload 4, 2) := dk_21 4 (dk_at dksX7_samples_2 18 rfl rfl)
theorem dX7_samples_66 : decode cX7_samples 66 = .ok (.i2l, 1) := dk_133 (dk_at dksX7_samples_2 20 rfl rfl)
theorem dX7_samples_67 : decode cX7_samples 67 = .ok (.ldiv, 1) := dk_109 (dk_at dksX7_samples_2 21 rfl rfl)
theorem dX7_samples_68 : decode cX7_samples 68 = .ok (.ladd, 1) := dk_97 (dk_at dksX7_samples_2 22 rfl rfl)
theorem dX7_samples_69 : decode cX7_samples 69 = .ok (.lastore, 1) := dk_80 (dk_at dksX7_samples_2 23 rfl rfl)
theorem dX7_samples_70 : decode cX7_samples 70 = .ok (.iload 5, 2) := dk_21 5 (dk_at dksX7_samples_3 0 rfl rfl)
theorem dX7_samples_72 : decode cX7_samples 72 = .ok (.ifCond .le 12, 3) := dk_158 0 12 (dk_at dksX7_samples_3 2 rfl rfl)
theorem dX7_samples_75 : decode cX7_samples 75 = .ok (.aload_n 0, 1) := dk_42 (dk_at dksX7_samples_3 5 rfl rfl)
theorem dX7_samples_76 : decode cX7_samples 76 = .ok (.iload_n 1, 1) := dk_27 (dk_at dksX7_samples_3 6 rfl rfl)
theorem dX7_samples_77 : decode cX7_samples 77 = .ok (.bipush 50, 2) := dk_16 50 (dk_at dksX7_samples_3 7 rfl rfl)
theorem dX7_samples_79 : decode cX7_samples 79 = .ok (.iload 5, 2) := dk_21 5 (dk_at dksX7_samples_3 9 rfl rfl)
theorem dX7_samples_81 : decode cX7_samples 81 = .ok (.invokevirtual 356, 3) := dk_182 1 100 (dk_at dksX7_samples_3 11 rfl rfl)
theorem dX7_samples_84 : decode cX7_samples 84 = .ok (.aload_n 0, 1) := dk_42 (dk_at dksX7_samples_3 14 rfl rfl)
theorem dX7_samples_85 : decode cX7_samples 85 = .ok (.iload_n 1, 1) := dk_27 (dk_at dksX7_samples_3 15 rfl rfl)
theorem dX7_samples_86 : decode cX7_samples 86 = .ok (.bipush 50, 2) := dk_16 50 (dk_at dksX7_samples_3 16 rfl rfl)
theorem dX7_samples_88 : decode cX7_samples 88 = .ok (.iload_n 2, 1) := dk_28 (dk_at dksX7_samples_3 18 rfl rfl)
theorem dX7_samples_89 : decode cX7_samples 89 = .ok (.invokevirtual 360, 3) := dk_182 1 104 (dk_at dksX7_samples_3 19 rfl rfl)
theorem dX7_samples_92 : decode cX7_samples 92 = .ok (.aload_n 0, 1) := dk_42 (dk_at dksX7_samples_3 22 rfl rfl)
theorem dX7_samples_93 : decode cX7_samples 93 = .ok (.getfield 28, 3) := dk_180 0 28 (dk_at dksX7_samples_4 0 rfl rfl)
theorem dX7_samples_96 : decode cX7_samples 96 = .ok (.iload_n 1, 1) := dk_27 (dk_at dksX7_samples_4 3 rfl rfl)
theorem dX7_samples_97 : decode cX7_samples 97 = .ok (.bipush 50, 2) := dk_16 50 (dk_at dksX7_samples_4 4 rfl rfl)
theorem dX7_samples_99 : decode cX7_samples 99 = .ok (.invokestatic 142, 3) := dk_184 0 142 (dk_at dksX7_samples_4 6 rfl rfl)
theorem dX7_samples_102 : decode cX7_samples 102 = .ok (.iaload, 1) := dk_46 (dk_at dksX7_samples_4 9 rfl rfl)
theorem dX7_samples_103 : decode cX7_samples 103 = .ok (.bipush 6, 2) := dk_16 6 (dk_at dksX7_samples_4 10 rfl rfl)
theorem dX7_samples_105 : decode cX7_samples 105 = .ok (.if_icmp .le 8, 3) := dk_164 0 8 (dk_at dksX7_samples_4 12 rfl rfl)
theorem dX7_samples_108 : decode cX7_samples 108 = .ok (.aload_n 0, 1) := dk_42 (dk_at dksX7_samples_4 15 rfl rfl)
theorem dX7_samples_109 : decode cX7_samples 109 = .ok (.iload_n 1, 1) := dk_27 (dk_at dksX7_samples_4 16 rfl rfl)
theorem dX7_samples_110 : decode cX7_samples 110 = .ok (.invokevirtual 371, 3) := dk_182 1 115 (dk_at dksX7_samples_4 17 rfl rfl)
theorem dX7_samples_113 : decode cX7_samples 113 = .ok (.return_, 1) := dk_177 (dk_at dksX7_samples_4 20 rfl rfl)
abbrev cX7_thins : ByteArray := prog_32_method_78_code
def yX7_thins : MethodName := ⟨RX7, "thins", "(I)V"⟩
def dkwX7_thins_4 : List UInt8 := [182, 0, 163, 28, 161, 0, 11, 42, 27, 16, 50, 29, 182, 1, 100, 132, 3, 255, 167, 255, 219, 177]
abbrev dktX7_thins_4 : List UInt8 := dkwX7_thins_4 ++ []
def dkwX7_thins_3 : List UInt8 := [184, 0, 142, 46, 62, 29, 4, 161, 0, 38, 42, 42, 180, 0, 28, 27, 16, 50, 29, 96, 184, 0, 142, 46]
abbrev dktX7_thins_3 : List UInt8 := dkwX7_thins_3 ++ dktX7_thins_4
def dkwX7_thins_2 : List UInt8 := [167, 255, 216, 42, 180, 0, 28, 27, 16, 58, 184, 0, 142, 28, 79, 42, 180, 0, 28, 27, 16, 50]
abbrev dktX7_thins_2 : List UInt8 := dkwX7_thins_2 ++ dktX7_thins_3
def dkwX7_thins_1 : List UInt8 := [180, 0, 28, 27, 16, 50, 29, 96, 184, 0, 142, 46, 182, 0, 163, 184, 1, 118, 61, 132, 3, 1]
abbrev dktX7_thins_1 : List UInt8 := dkwX7_thins_1 ++ dktX7_thins_2
def dkwX7_thins_0 : List UInt8 := [3, 61, 4, 62, 29, 42, 180, 0, 28, 27, 16, 50, 184, 0, 142, 46, 163, 0, 31, 28, 42, 42]
abbrev dktX7_thins_0 : List UInt8 := dkwX7_thins_0 ++ dktX7_thins_1
theorem dksX7_thins_0 : cX7_thins.data.toList.drop 0 = dktX7_thins_0 := by decide +kernel
theorem dksX7_thins_1 : cX7_thins.data.toList.drop 22 = dktX7_thins_1 := dk_seg dksX7_thins_0 22 rfl rfl
theorem dksX7_thins_2 : cX7_thins.data.toList.drop 44 = dktX7_thins_2 := dk_seg dksX7_thins_1 22 rfl rfl
theorem dksX7_thins_3 : cX7_thins.data.toList.drop 66 = dktX7_thins_3 := dk_seg dksX7_thins_2 22 rfl rfl
theorem dksX7_thins_4 : cX7_thins.data.toList.drop 90 = dktX7_thins_4 := dk_seg dksX7_thins_3 24 rfl rfl
theorem dX7_thins_0 : decode cX7_thins 0 = .ok (.iconst 0, 1) := dk_3 (dk_at dksX7_thins_0 0 rfl rfl)
theorem dX7_thins_1 : decode cX7_thins 1 = .ok (.istore_n 2, 1) := dk_61 (dk_at dksX7_thins_0 1 rfl rfl)
theorem dX7_thins_2 : decode cX7_thins 2 = .ok (.iconst 1, 1) := dk_4 (dk_at dksX7_thins_0 2 rfl rfl)
theorem dX7_thins_3 : decode cX7_thins 3 = .ok (.istore_n 3, 1) := dk_62 (dk_at dksX7_thins_0 3 rfl rfl)
theorem dX7_thins_4 : decode cX7_thins 4 = .ok (.iload_n 3, 1) := dk_29 (dk_at dksX7_thins_0 4 rfl rfl)
theorem dX7_thins_5 : decode cX7_thins 5 = .ok (.aload_n 0, 1) := dk_42 (dk_at dksX7_thins_0 5 rfl rfl)
theorem dX7_thins_6 : decode cX7_thins 6 = .ok (.getfield 28, 3) := dk_180 0 28 (dk_at dksX7_thins_0 6 rfl rfl)
theorem dX7_thins_9 : decode cX7_thins 9 = .ok (.iload_n 1, 1) := dk_27 (dk_at dksX7_thins_0 9 rfl rfl)
theorem dX7_thins_10 : decode cX7_thins 10 = .ok (.bipush 50, 2) := dk_16 50 (dk_at dksX7_thins_0 10 rfl rfl)
theorem dX7_thins_12 : decode cX7_thins 12 = .ok (.invokestatic 142, 3) := dk_184 0 142 (dk_at dksX7_thins_0 12 rfl rfl)
theorem dX7_thins_15 : decode cX7_thins 15 = .ok (.iaload, 1) := dk_46 (dk_at dksX7_thins_0 15 rfl rfl)
theorem dX7_thins_16 : decode cX7_thins 16 = .ok (.if_icmp .gt 31, 3) := dk_163 0 31 (dk_at dksX7_thins_0 16 rfl rfl)
theorem dX7_thins_19 : decode cX7_thins 19 = .ok (.iload_n 2, 1) := dk_28 (dk_at dksX7_thins_0 19 rfl rfl)
theorem dX7_thins_20 : decode cX7_thins 20 = .ok (.aload_n 0, 1) := dk_42 (dk_at dksX7_thins_0 20 rfl rfl)
theorem dX7_thins_21 : decode cX7_thins 21 = .ok (.aload_n 0, 1) := dk_42 (dk_at dksX7_thins_0 21 rfl rfl)
theorem dX7_thins_22 : decode cX7_thins 22 = .ok (.getfield 28, 3) := dk_180 0 28 (dk_at dksX7_thins_1 0 rfl rfl)
theorem dX7_thins_25 : decode cX7_thins 25 = .ok (.iload_n 1, 1) := dk_27 (dk_at dksX7_thins_1 3 rfl rfl)
theorem dX7_thins_26 : decode cX7_thins 26 = .ok (.bipush 50, 2) := dk_16 50 (dk_at dksX7_thins_1 4 rfl rfl)
theorem dX7_thins_28 : decode cX7_thins 28 = .ok (.iload_n 3, 1) := dk_29 (dk_at dksX7_thins_1 6 rfl rfl)
theorem dX7_thins_29 : decode cX7_thins 29 = .ok (.iadd, 1) := dk_96 (dk_at dksX7_thins_1 7 rfl rfl)
theorem dX7_thins_30 : decode cX7_thins 30 = .ok (.invokestatic 142, 3) := dk_184 0 142 (dk_at dksX7_thins_1 8 rfl rfl)
theorem dX7_thins_33 : decode cX7_thins 33 = .ok (.iaload, 1) := dk_46 (dk_at dksX7_thins_1 11 rfl rfl)
theorem dX7_thins_34 : decode cX7_thins 34 = .ok (.invokevirtual 163, 3) := dk_182 0 163 (dk_at dksX7_thins_1 12 rfl rfl)
theorem dX7_thins_37 : decode cX7_thins 37 = .ok (.invokestatic 374, 3) := dk_184 1 118 (dk_at dksX7_thins_1 15 rfl rfl)
theorem dX7_thins_40 : decode cX7_thins 40 = .ok (.istore_n 2, 1) := dk_61 (dk_at dksX7_thins_1 18 rfl rfl)
theorem dX7_thins_41 : decode cX7_thins 41 = .ok (.iinc 3 1, 3) := dk_132 3 1 (dk_at dksX7_thins_1 19 rfl rfl)
theorem dX7_thins_44 : decode cX7_thins 44 = .ok (.goto (-40), 3) := dk_167 255 216 (dk_at dksX7_thins_2 0 rfl rfl)
theorem dX7_thins_47 : decode cX7_thins 47 = .ok (.aload_n 0, 1) := dk_42 (dk_at dksX7_thins_2 3 rfl rfl)
theorem dX7_thins_48 : decode cX7_thins 48 = .ok (.getfield 28, 3) := dk_180 0 28 (dk_at dksX7_thins_2 4 rfl rfl)
theorem dX7_thins_51 : decode cX7_thins 51 = .ok (.iload_n 1, 1) := dk_27 (dk_at dksX7_thins_2 7 rfl rfl)
theorem dX7_thins_52 : decode cX7_thins 52 = .ok (.bipush 58, 2) := dk_16 58 (dk_at dksX7_thins_2 8 rfl rfl)
theorem dX7_thins_54 : decode cX7_thins 54 = .ok (.invokestatic 142, 3) := dk_184 0 142 (dk_at dksX7_thins_2 10 rfl rfl)
theorem dX7_thins_57 : decode cX7_thins 57 = .ok (.iload_n 2, 1) := dk_28 (dk_at dksX7_thins_2 13 rfl rfl)
theorem dX7_thins_58 : decode cX7_thins 58 = .ok (.iastore, 1) := dk_79 (dk_at dksX7_thins_2 14 rfl rfl)
theorem dX7_thins_59 : decode cX7_thins 59 = .ok (.aload_n 0, 1) := dk_42 (dk_at dksX7_thins_2 15 rfl rfl)
theorem dX7_thins_60 : decode cX7_thins 60 = .ok (.getfield 28, 3) := dk_180 0 28 (dk_at dksX7_thins_2 16 rfl rfl)
theorem dX7_thins_63 : decode cX7_thins 63 = .ok (.iload_n 1, 1) := dk_27 (dk_at dksX7_thins_2 19 rfl rfl)
theorem dX7_thins_64 : decode cX7_thins 64 = .ok (.bipush 50, 2) := dk_16 50 (dk_at dksX7_thins_2 20 rfl rfl)
theorem dX7_thins_66 : decode cX7_thins 66 = .ok (.invokestatic 142, 3) := dk_184 0 142 (dk_at dksX7_thins_3 0 rfl rfl)
theorem dX7_thins_69 : decode cX7_thins 69 = .ok (.iaload, 1) := dk_46 (dk_at dksX7_thins_3 3 rfl rfl)
theorem dX7_thins_70 : decode cX7_thins 70 = .ok (.istore_n 3, 1) := dk_62 (dk_at dksX7_thins_3 4 rfl rfl)
theorem dX7_thins_71 : decode cX7_thins 71 = .ok (.iload_n 3, 1) := dk_29 (dk_at dksX7_thins_3 5 rfl rfl)
theorem dX7_thins_72 : decode cX7_thins 72 = .ok (.iconst 1, 1) := dk_4 (dk_at dksX7_thins_3 6 rfl rfl)
theorem dX7_thins_73 : decode cX7_thins 73 = .ok (.if_icmp .lt 38, 3) := dk_161 0 38 (dk_at dksX7_thins_3 7 rfl rfl)
theorem dX7_thins_76 : decode cX7_thins 76 = .ok (.aload_n 0, 1) := dk_42 (dk_at dksX7_thins_3 10 rfl rfl)
theorem dX7_thins_77 : decode cX7_thins 77 = .ok (.aload_n 0, 1) := dk_42 (dk_at dksX7_thins_3 11 rfl rfl)
theorem dX7_thins_78 : decode cX7_thins 78 = .ok (.getfield 28, 3) := dk_180 0 28 (dk_at dksX7_thins_3 12 rfl rfl)
theorem dX7_thins_81 : decode cX7_thins 81 = .ok (.iload_n 1, 1) := dk_27 (dk_at dksX7_thins_3 15 rfl rfl)
theorem dX7_thins_82 : decode cX7_thins 82 = .ok (.bipush 50, 2) := dk_16 50 (dk_at dksX7_thins_3 16 rfl rfl)
theorem dX7_thins_84 : decode cX7_thins 84 = .ok (.iload_n 3, 1) := dk_29 (dk_at dksX7_thins_3 18 rfl rfl)
theorem dX7_thins_85 : decode cX7_thins 85 = .ok (.iadd, 1) := dk_96 (dk_at dksX7_thins_3 19 rfl rfl)
theorem dX7_thins_86 : decode cX7_thins 86 = .ok (.invokestatic 142, 3) := dk_184 0 142 (dk_at dksX7_thins_3 20 rfl rfl)
theorem dX7_thins_89 : decode cX7_thins 89 = .ok (.iaload, 1) := dk_46 (dk_at dksX7_thins_3 23 rfl rfl)
theorem dX7_thins_90 : decode cX7_thins 90 = .ok (.invokevirtual 163, 3) := dk_182 0 163 (dk_at dksX7_thins_4 0 rfl rfl)
theorem dX7_thins_93 : decode cX7_thins 93 = .ok (.iload_n 2, 1) := dk_28 (dk_at dksX7_thins_4 3 rfl rfl)
theorem dX7_thins_94 : decode cX7_thins 94 = .ok (.if_icmp .lt 11, 3) := dk_161 0 11 (dk_at dksX7_thins_4 4 rfl rfl)
theorem dX7_thins_97 : decode cX7_thins 97 = .ok (.aload_n 0, 1) := dk_42 (dk_at dksX7_thins_4 7 rfl rfl)
theorem dX7_thins_98 : decode cX7_thins 98 = .ok (.iload_n 1, 1) := dk_27 (dk_at dksX7_thins_4 8 rfl rfl)
theorem dX7_thins_99 : decode cX7_thins 99 = .ok (.bipush 50, 2) := dk_16 50 (dk_at dksX7_thins_4 9 rfl rfl)
theorem dX7_thins_101 : decode cX7_thins 101 = .ok (.iload_n 3, 1) := dk_29 (dk_at dksX7_thins_4 11 rfl rfl)
theorem dX7_thins_102 : decode cX7_thins 102 = .ok (.invokevirtual 356, 3) := dk_182 1 100 (dk_at dksX7_thins_4 12 rfl rfl)
theorem dX7_thins_105 : decode cX7_thins 105 = .ok (.iinc 3 (-1), 3) := dk_132 3 255 (dk_at dksX7_thins_4 15 rfl rfl)
theorem dX7_thins_108 : decode cX7_thins 108 = .ok (.goto (-37), 3) := dk_167 255 219 (dk_at dksX7_thins_4 18 rfl rfl)
theorem dX7_thins_111 : decode cX7_thins 111 = .ok (.return_, 1) := dk_177 (dk_at dksX7_thins_4 21 rfl rfl)
abbrev cX7_greater : ByteArray := prog_32_method_2_code
def yX7_greater : MethodName := ⟨RX7, "greater", "(II)I"⟩
def dkwX7_greater_0 : List UInt8 := [26, 27, 164, 0, 7, 26, 167, 0, 4, 27, 172]
abbrev dktX7_greater_0 : List UInt8 := dkwX7_greater_0 ++ []
theorem dksX7_greater_0 : cX7_greater.data.toList.drop 0 = dktX7_greater_0 := by decide +kernel
theorem dX7_greater_0 : decode cX7_greater 0 = .ok (.iload_n 0, 1) := dk_26 (dk_at dksX7_greater_0 0 rfl rfl)
theorem dX7_greater_1 : decode cX7_greater 1 = .ok (.iload_n 1, 1) := dk_27 (dk_at dksX7_greater_0 1 rfl rfl)
theorem dX7_greater_2 : decode cX7_greater 2 = .ok (.if_icmp .le 7, 3) := dk_164 0 7 (dk_at dksX7_greater_0 2 rfl rfl)
theorem dX7_greater_5 : decode cX7_greater 5 = .ok (.iload_n 0, 1) := dk_26 (dk_at dksX7_greater_0 5 rfl rfl)
theorem dX7_greater_6 : decode cX7_greater 6 = .ok (.goto 4, 3) := dk_167 0 4 (dk_at dksX7_greater_0 6 rfl rfl)
theorem dX7_greater_9 : decode cX7_greater 9 = .ok (.iload_n 1, 1) := dk_27 (dk_at dksX7_greater_0 9 rfl rfl)
theorem dX7_greater_10 : decode cX7_greater 10 = .ok (.ireturn, 1) := dk_172 (dk_at dksX7_greater_0 10 rfl rfl)
abbrev cX7_blanks : ByteArray := prog_32_method_26_code
def yX7_blanks : MethodName := ⟨RX7, "blanks", "()I"⟩
theorem dX7_blanks_0 : decode cX7_blanks 0 = .ok (.aload_n 0, 1) := by decide +kernel
theorem dX7_blanks_1 : decode cX7_blanks 1 = .ok (.getfield 182, 3) := by decide +kernel
theorem dX7_blanks_4 : decode cX7_blanks 4 = .ok (.ireturn, 1) := by decide +kernel
abbrev cX7_feed : ByteArray := prog_32_method_27_code
def yX7_feed : MethodName := ⟨RX7, "feed", "(IIIII)I"⟩
def dkwX7_feed_5 : List UInt8 := [180, 0, 179, 172]
abbrev dktX7_feed_5 : List UInt8 := dkwX7_feed_5 ++ []
def dkwX7_feed_4 : List UInt8 := [100, 122, 145, 84, 132, 6, 1, 167, 255, 213, 42, 89, 180, 0, 179, 16, 20, 96, 181, 0, 179, 42]
abbrev dktX7_feed_4 : List UInt8 := dkwX7_feed_4 ++ dktX7_feed_5
def dkwX7_feed_3 : List UInt8 := [180, 0, 179, 21, 6, 96, 42, 180, 0, 58, 21, 6, 7, 108, 46, 16, 24, 16, 8, 21, 6, 7, 112, 104]
abbrev dktX7_feed_3 : List UInt8 := dkwX7_feed_3 ++ dktX7_feed_4
def dkwX7_feed_2 : List UInt8 := [180, 0, 58, 7, 21, 5, 79, 3, 54, 6, 21, 6, 16, 20, 162, 0, 42, 42, 180, 0, 55, 42]
abbrev dktX7_feed_2 : List UInt8 := dkwX7_feed_2 ++ dktX7_feed_3
def dkwX7_feed_1 : List UInt8 := [180, 0, 58, 4, 28, 79, 42, 180, 0, 58, 5, 29, 79, 42, 180, 0, 58, 6, 21, 4, 79, 42]
abbrev dktX7_feed_1 : List UInt8 := dkwX7_feed_1 ++ dktX7_feed_2
def dkwX7_feed_0 : List UInt8 := [42, 180, 0, 179, 16, 20, 96, 17, 1, 144, 164, 0, 5, 2, 172, 42, 180, 0, 58, 3, 27, 79, 42]
abbrev dktX7_feed_0 : List UInt8 := dkwX7_feed_0 ++ dktX7_feed_1
theorem dksX7_feed_0 : cX7_feed.data.toList.drop 0 = dktX7_feed_0 := by decide +kernel
theorem dksX7_feed_1 : cX7_feed.data.toList.drop 23 = dktX7_feed_1 := dk_seg dksX7_feed_0 23 rfl rfl
theorem dksX7_feed_2 : cX7_feed.data.toList.drop 45 = dktX7_feed_2 := dk_seg dksX7_feed_1 22 rfl rfl
theorem dksX7_feed_3 : cX7_feed.data.toList.drop 67 = dktX7_feed_3 := dk_seg dksX7_feed_2 22 rfl rfl
theorem dksX7_feed_4 : cX7_feed.data.toList.drop 91 = dktX7_feed_4 := dk_seg dksX7_feed_3 24 rfl rfl
theorem dksX7_feed_5 : cX7_feed.data.toList.drop 113 = dktX7_feed_5 := dk_seg dksX7_feed_4 22 rfl rfl
theorem dX7_feed_0 : decode cX7_feed 0 = .ok (.aload_n 0, 1) := dk_42 (dk_at dksX7_feed_0 0 rfl rfl)
theorem dX7_feed_1 : decode cX7_feed 1 = .ok (.getfield 179, 3) := dk_180 0 179 (dk_at dksX7_feed_0 1 rfl rfl)
theorem dX7_feed_4 : decode cX7_feed 4 = .ok (.bipush 20, 2) := dk_16 20 (dk_at dksX7_feed_0 4 rfl rfl)
theorem dX7_feed_6 : decode cX7_feed 6 = .ok (.iadd, 1) := dk_96 (dk_at dksX7_feed_0 6 rfl rfl)
theorem dX7_feed_7 : decode cX7_feed 7 = .ok (.sipush 400, 3) := dk_17 1 144 (dk_at dksX7_feed_0 7 rfl rfl)
theorem dX7_feed_10 : decode cX7_feed 10 = .ok (.if_icmp .le 5, 3) := dk_164 0 5 (dk_at dksX7_feed_0 10 rfl rfl)
theorem dX7_feed_13 : decode cX7_feed 13 = .ok (.iconst (-1), 1) := dk_2 (dk_at dksX7_feed_0 13 rfl rfl)
theorem dX7_feed_14 : decode cX7_feed 14 = .ok (.ireturn, 1) := dk_172 (dk_at dksX7_feed_0 14 rfl rfl)
theorem dX7_feed_15 : decode cX7_feed 15 = .ok (.aload_n 0, 1) := dk_42 (dk_at dksX7_feed_0 15 rfl rfl)
theorem dX7_feed_16 : decode cX7_feed 16 = .ok (.getfield 58, 3) := dk_180 0 58 (dk_at dksX7_feed_0 16 rfl rfl)
theorem dX7_feed_19 : decode cX7_feed 19 = .ok (.iconst 0, 1) := dk_3 (dk_at dksX7_feed_0 19 rfl rfl)
theorem dX7_feed_20 : decode cX7_feed 20 = .ok (.iload_n 1, 1) := dk_27 (dk_at dksX7_feed_0 20 rfl rfl)
theorem dX7_feed_21 : decode cX7_feed 21 = .ok (.iastore, 1) := dk_79 (dk_at dksX7_feed_0 21 rfl rfl)
theorem dX7_feed_22 : decode cX7_feed 22 = .ok (.aload_n 0, 1) := dk_42 (dk_at dksX7_feed_0 22 rfl rfl)
theorem dX7_feed_23 : decode cX7_feed 23 = .ok (.getfield 58, 3) := dk_180 0 58 (dk_at dksX7_feed_1 0 rfl rfl)
theorem dX7_feed_26 : decode cX7_feed 26 = .ok (.iconst 1, 1) := dk_4 (dk_at dksX7_feed_1 3 rfl rfl)
theorem dX7_feed_27 : decode cX7_feed 27 = .ok (.iload_n 2, 1) := dk_28 (dk_at dksX7_feed_1 4 rfl rfl)
theorem dX7_feed_28 : decode cX7_feed 28 = .ok (.iastore, 1) := dk_79 (dk_at dksX7_feed_1 5 rfl rfl)
theorem dX7_feed_29 : decode cX7_feed 29 = .ok (.aload_n 0, 1) := dk_42 (dk_at dksX7_feed_1 6 rfl rfl)
theorem dX7_feed_30 : decode cX7_feed 30 = .ok (.getfield 58, 3) := dk_180 0 58 (dk_at dksX7_feed_1 7 rfl rfl)
theorem dX7_feed_33 : decode cX7_feed 33 = .ok (.iconst 2, 1) := dk_5 (dk_at dksX7_feed_1 10 rfl rfl)
theorem dX7_feed_34 : decode cX7_feed 34 = .ok (.iload_n 3, 1) := dk_29 (dk_at dksX7_feed_1 11 rfl rfl)
theorem dX7_feed_35 : decode cX7_feed 35 = .ok (.iastore, 1) := dk_79 (dk_at dksX7_feed_1 12 rfl rfl)
theorem dX7_feed_36 : decode cX7_feed 36 = .ok (.aload_n 0, 1) := dk_42 (dk_at dksX7_feed_1 13 rfl rfl)
theorem dX7_feed_37 : decode cX7_feed 37 = .ok (.getfield 58, 3) := dk_180 0 58 (dk_at dksX7_feed_1 14 rfl rfl)
theorem dX7_feed_40 : decode cX7_feed 40 = .ok (.iconst 3, 1) := dk_6 (dk_at dksX7_feed_1 17 rfl rfl)
theorem dX7_feed_41 : decode cX7_feed 41 = .ok (.iload 4, 2) := dk_21 4 (dk_at dksX7_feed_1 18 rfl rfl)
theorem dX7_feed_43 : decode cX7_feed 43 = .ok (.iastore, 1) := dk_79 (dk_at dksX7_feed_1 20 rfl rfl)
theorem dX7_feed_44 : decode cX7_feed 44 = .ok (.aload_n 0, 1) := dk_42 (dk_at dksX7_feed_1 21 rfl rfl)
theorem dX7_feed_45 : decode cX7_feed 45 = .ok (.getfield 58, 3) := dk_180 0 58 (dk_at dksX7_feed_2 0 rfl rfl)
theorem dX7_feed_48 : decode cX7_feed 48 = .ok (.iconst 4, 1) := dk_7 (dk_at dksX7_feed_2 3 rfl rfl)
theorem dX7_feed_49 : decode cX7_feed 49 = .ok (.iload 5, 2) := dk_21 5 (dk_at dksX7_feed_2 4 rfl rfl)
theorem dX7_feed_51 : decode cX7_feed 51 = .ok (.iastore, 1) := dk_79 (dk_at dksX7_feed_2 6 rfl rfl)
theorem dX7_feed_52 : decode cX7_feed 52 = .ok (.iconst 0, 1) := dk_3 (dk_at dksX7_feed_2 7 rfl rfl)
theorem dX7_feed_53 : decode cX7_feed 53 = .ok (.istore 6, 2) := dk_54 6 (dk_at dksX7_feed_2 8 rfl rfl)
theorem dX7_feed_55 : decode cX7_feed 55 = .ok (.iload 6, 2) := dk_21 6 (dk_at dksX7_feed_2 10 rfl rfl)
theorem dX7_feed_57 : decode cX7_feed 57 = .ok (.bipush 20, 2) := dk_16 20 (dk_at dksX7_feed_2 12 rfl rfl)
theorem dX7_feed_59 : decode cX7_feed 59 = .ok (.if_icmp .ge 42, 3) := dk_162 0 42 (dk_at dksX7_feed_2 14 rfl rfl)
theorem dX7_feed_62 : decode cX7_feed 62 = .ok (.aload_n 0, 1) := dk_42 (dk_at dksX7_feed_2 17 rfl rfl)
theorem dX7_feed_63 : decode cX7_feed 63 = .ok (.getfield 55, 3) := dk_180 0 55 (dk_at dksX7_feed_2 18 rfl rfl)
theorem dX7_feed_66 : decode cX7_feed 66 = .ok (.aload_n 0, 1) := dk_42 (dk_at dksX7_feed_2 21 rfl rfl)
theorem dX7_feed_67 : decode cX7_feed 67 = .ok (.getfield 179, 3) := dk_180 0 179 (dk_at dksX7_feed_3 0 rfl rfl)
theorem dX7_feed_70 : decode cX7_feed 70 = .ok (.iload 6, 2) := dk_21 6 (dk_at dksX7_feed_3 3 rfl rfl)
theorem dX7_feed_72 : decode cX7_feed 72 = .ok (.iadd, 1) := dk_96 (dk_at dksX7_feed_3 5 rfl rfl)
theorem dX7_feed_73 : decode cX7_feed 73 = .ok (.aload_n 0, 1) := dk_42 (dk_at dksX7_feed_3 6 rfl rfl)
theorem dX7_feed_74 : decode cX7_feed 74 = .ok (.getfield 58, 3) := dk_180 0 58 (dk_at dksX7_feed_3 7 rfl rfl)
theorem dX7_feed_77 : decode cX7_feed 77 = .ok (.iload 6, 2) := dk_21 6 (dk_at dksX7_feed_3 10 rfl rfl)
theorem dX7_feed_79 : decode cX7_feed 79 = .ok (.iconst 4, 1) := dk_7 (dk_at dksX7_feed_3 12 rfl rfl)
theorem dX7_feed_80 : decode cX7_feed 80 = .ok (.idiv, 1) := dk_108 (dk_at dksX7_feed_3 13 rfl rfl)
theorem dX7_feed_81 : decode cX7_feed 81 = .ok (.iaload, 1) := dk_46 (dk_at dksX7_feed_3 14 rfl rfl)
theorem dX7_feed_82 : decode cX7_feed 82 = .ok (.bipush 24, 2) := dk_16 24 (dk_at dksX7_feed_3 15 rfl rfl)
theorem dX7_feed_84 : decode cX7_feed 84 = .ok (.bipush 8, 2) := dk_16 8 (dk_at dksX7_feed_3 17 rfl rfl)
theorem dX7_feed_86 : decode cX7_feed 86 = .ok (.iload 6, 2) := dk_21 6 (dk_at dksX7_feed_3 19 rfl rfl)
theorem dX7_feed_88 : decode cX7_feed 88 = .ok (.iconst 4, 1) := dk_7 (dk_at dksX7_feed_3 21 rfl rfl)
theorem dX7_feed_89 : decode cX7_feed 89 = .ok (.irem, 1) := dk_112 (dk_at dksX7_feed_3 22 rfl rfl)
theorem dX7_feed_90 : decode cX7_feed 90 = .ok (.imul, 1) := dk_104 (dk_at dksX7_feed_3 23 rfl rfl)
theorem dX7_feed_91 : decode cX7_feed 91 = .ok (.isub, 1) := dk_100 (dk_at dksX7_feed_4 0 rfl rfl)
theorem dX7_feed_92 : decode cX7_feed 92 = .ok (.ishr, 1) := dk_122 (dk_at dksX7_feed_4 1 rfl rfl)
theorem dX7_feed_93 : decode cX7_feed 93 = .ok (.i2b, 1) := dk_145 (dk_at dksX7_feed_4 2 rfl rfl)
theorem dX7_feed_94 : decode cX7_feed 94 = .ok (.bastore, 1) := dk_84 (dk_at dksX7_feed_4 3 rfl rfl)
theorem dX7_feed_95 : decode cX7_feed 95 = .ok (.iinc 6 1, 3) := dk_132 6 1 (dk_at dksX7_feed_4 4 rfl rfl)
theorem dX7_feed_98 : decode cX7_feed 98 = .ok (.goto (-43), 3) := dk_167 255 213 (dk_at dksX7_feed_4 7 rfl rfl)
theorem dX7_feed_101 : decode cX7_feed 101 = .ok (.aload_n 0, 1) := dk_42 (dk_at dksX7_feed_4 10 rfl rfl)
theorem dX7_feed_102 : decode cX7_feed 102 = .ok (.dup, 1) := dk_89 (dk_at dksX7_feed_4 11 rfl rfl)
theorem dX7_feed_103 : decode cX7_feed 103 = .ok (.getfield 179, 3) := dk_180 0 179 (dk_at dksX7_feed_4 12 rfl rfl)
theorem dX7_feed_106 : decode cX7_feed 106 = .ok (.bipush 20, 2) := dk_16 20 (dk_at dksX7_feed_4 15 rfl rfl)
theorem dX7_feed_108 : decode cX7_feed 108 = .ok (.iadd, 1) := dk_96 (dk_at dksX7_feed_4 17 rfl rfl)
theorem dX7_feed_109 : decode cX7_feed 109 = .ok (.putfield 179, 3) := dk_181 0 179 (dk_at dksX7_feed_4 18 rfl rfl)
theorem dX7_feed_112 : decode cX7_feed 112 = .ok (.aload_n 0, 1) := dk_42 (dk_at dksX7_feed_4 21 rfl rfl)
theorem dX7_feed_113 : decode cX7_feed 113 = .ok (.getfield 179, 3) := dk_180 0 179 (dk_at dksX7_feed_5 0 rfl rfl)
theorem dX7_feed_116 : decode cX7_feed 116 = .ok (.ireturn, 1) := dk_172 (dk_at dksX7_feed_5 3 rfl rfl)
abbrev cX7_end : ByteArray := prog_32_method_28_code
def yX7_end : MethodName := ⟨RX7, "end", "(I)I"⟩
def dkwX7_end_0 : List UInt8 := [27, 3, 42, 180, 0, 179, 184, 0, 18, 154, 0, 5, 2, 172, 42, 27, 181, 0, 179, 27, 172]
abbrev dktX7_end_0 : List UInt8 := dkwX7_end_0 ++ []
theorem dksX7_end_0 : cX7_end.data.toList.drop 0 = dktX7_end_0 := by decide +kernel
theorem dX7_end_0 : decode cX7_end 0 = .ok (.iload_n 1, 1) := dk_27 (dk_at dksX7_end_0 0 rfl rfl)
theorem dX7_end_1 : decode cX7_end 1 = .ok (.iconst 0, 1) := dk_3 (dk_at dksX7_end_0 1 rfl rfl)
theorem dX7_end_2 : decode cX7_end 2 = .ok (.aload_n 0, 1) := dk_42 (dk_at dksX7_end_0 2 rfl rfl)
theorem dX7_end_3 : decode cX7_end 3 = .ok (.getfield 179, 3) := dk_180 0 179 (dk_at dksX7_end_0 3 rfl rfl)
theorem dX7_end_6 : decode cX7_end 6 = .ok (.invokestatic 18, 3) := dk_184 0 18 (dk_at dksX7_end_0 6 rfl rfl)
theorem dX7_end_9 : decode cX7_end 9 = .ok (.ifCond .ne 5, 3) := dk_154 0 5 (dk_at dksX7_end_0 9 rfl rfl)
theorem dX7_end_12 : decode cX7_end 12 = .ok (.iconst (-1), 1) := dk_2 (dk_at dksX7_end_0 12 rfl rfl)
theorem dX7_end_13 : decode cX7_end 13 = .ok (.ireturn, 1) := dk_172 (dk_at dksX7_end_0 13 rfl rfl)
theorem dX7_end_14 : decode cX7_end 14 = .ok (.aload_n 0, 1) := dk_42 (dk_at dksX7_end_0 14 rfl rfl)
theorem dX7_end_15 : decode cX7_end 15 = .ok (.iload_n 1, 1) := dk_27 (dk_at dksX7_end_0 15 rfl rfl)
theorem dX7_end_16 : decode cX7_end 16 = .ok (.putfield 179, 3) := dk_181 0 179 (dk_at dksX7_end_0 16 rfl rfl)
theorem dX7_end_19 : decode cX7_end 19 = .ok (.iload_n 1, 1) := dk_27 (dk_at dksX7_end_0 19 rfl rfl)
theorem dX7_end_20 : decode cX7_end 20 = .ok (.ireturn, 1) := dk_172 (dk_at dksX7_end_0 20 rfl rfl)
abbrev cX7_policy : ByteArray := prog_32_method_53_code
def yX7_policy : MethodName := ⟨RX7, "policy", "()I"⟩
def dkwX7_policy_5 : List UInt8 := [172]
abbrev dktX7_policy_5 : List UInt8 := dkwX7_policy_5 ++ []
def dkwX7_policy_4 : List UInt8 := [154, 0, 10, 42, 16, 250, 182, 0, 146, 172, 42, 180, 0, 28, 17, 1, 113, 27, 79, 42, 27, 182, 0, 14]
abbrev dktX7_policy_4 : List UInt8 := dkwX7_policy_4 ++ dktX7_policy_5
def dkwX7_policy_3 : List UInt8 := [42, 180, 0, 188, 162, 0, 7, 42, 182, 0, 214, 42, 42, 180, 0, 201, 181, 0, 61, 42, 182, 0, 204]
abbrev dktX7_policy_3 : List UInt8 := dkwX7_policy_3 ++ dktX7_policy_4
def dkwX7_policy_2 : List UInt8 := [167, 0, 13, 42, 89, 180, 0, 208, 4, 96, 181, 0, 208, 42, 182, 0, 204, 153, 0, 18, 42, 180, 0, 208]
abbrev dktX7_policy_2 : List UInt8 := dkwX7_policy_2 ++ dktX7_policy_3
def dkwX7_policy_1 : List UInt8 := [180, 0, 64, 3, 46, 16, 24, 100, 60, 27, 3, 7, 184, 0, 18, 154, 0, 10, 42, 182, 0, 214]
abbrev dktX7_policy_1 : List UInt8 := dkwX7_policy_1 ++ dktX7_policy_2
def dkwX7_policy_0 : List UInt8 := [42, 42, 180, 0, 179, 182, 1, 16, 42, 3, 181, 0, 179, 42, 3, 181, 0, 208, 42, 2, 181, 0, 201, 42]
abbrev dktX7_policy_0 : List UInt8 := dkwX7_policy_0 ++ dktX7_policy_1
theorem dksX7_policy_0 : cX7_policy.data.toList.drop 0 = dktX7_policy_0 := by decide +kernel
theorem dksX7_policy_1 : cX7_policy.data.toList.drop 24 = dktX7_policy_1 := dk_seg dksX7_policy_0 24 rfl rfl
theorem dksX7_policy_2 : cX7_policy.data.toList.drop 46 = dktX7_policy_2 := dk_seg dksX7_policy_1 22 rfl rfl
theorem dksX7_policy_3 : cX7_policy.data.toList.drop 70 = dktX7_policy_3 := dk_seg dksX7_policy_2 24 rfl rfl
theorem dksX7_policy_4 : cX7_policy.data.toList.drop 93 = dktX7_policy_4 := dk_seg dksX7_policy_3 23 rfl rfl
theorem dksX7_policy_5 : cX7_policy.data.toList.drop 117 = dktX7_policy_5 := dk_seg dksX7_policy_4 24 rfl rfl
theorem dX7_policy_0 : decode cX7_policy 0 = .ok (.aload_n 0, 1) := dk_42 (dk_at dksX7_policy_0 0 rfl rfl)
theorem dX7_policy_1 : decode cX7_policy 1 = .ok (.aload_n 0, 1) := dk_42 (dk_at dksX7_policy_0 1 rfl rfl)
theorem dX7_policy_2 : decode cX7_policy 2 = .ok (.getfield 179, 3) := dk_180 0 179 (dk_at dksX7_policy_0 2 rfl rfl)
theorem dX7_policy_5 : decode cX7_policy 5 = .ok (.invokevirtual 272, 3) := dk_182 1 16 (dk_at dksX7_policy_0 5 rfl rfl)
theorem dX7_policy_8 : decode cX7_policy 8 = .ok (.aload_n 0, 1) := dk_42 (dk_at dksX7_policy_0 8 rfl rfl)
theorem dX7_policy_9 : decode cX7_policy 9 = .ok (.iconst 0, 1) := dk_3 (dk_at dksX7_policy_0 9 rfl rfl)
theorem dX7_policy_10 : decode cX7_policy 10 = .ok (.putfield 179, 3) := dk_181 0 179 (dk_at dksX7_policy_0 10 rfl rfl)
theorem dX7_policy_13 : decode cX7_policy 13 = .ok (.aload_n 0, 1) := dk_42 (dk_at dksX7_policy_0 13 rfl rfl)
theorem dX7_policy_14 : decode cX7_policy 14 = .ok (.iconst 0, 1) := dk_3 (dk_at dksX7_policy_0 14 rfl rfl)
theorem dX7_policy_15 : decode cX7_policy 15 = .ok (.putfield 208, 3) := dk_181 0 208 (dk_at dksX7_policy_0 15 rfl rfl)
theorem dX7_policy_18 : decode cX7_policy 18 = .ok (.aload_n 0, 1) := dk_42 (dk_at dksX7_policy_0 18 rfl rfl)
theorem dX7_policy_19 : decode cX7_policy 19 = .ok (.iconst (-1), 1) := dk_2 (dk_at dksX7_policy_0 19 rfl rfl)
theorem dX7_policy_20 : decode cX7_policy 20 = .ok (.putfield 201, 3) := dk_181 0 201 (dk_at dksX7_policy_0 20 rfl rfl)
theorem dX7_policy_23 : decode cX7_policy 23 = .ok (.aload_n 0, 1) := dk_42 (dk_at dksX7_policy_0 23 rfl rfl)
theorem dX7_policy_24 : decode cX7_policy 24 = .ok (.getfield 64, 3) := dk_180 0 64 (dk_at dksX7_policy_1 0 rfl rfl)
theorem dX7_policy_27 : decode cX7_policy 27 = .ok (.iconst 0, 1) := dk_3 (dk_at dksX7_policy_1 3 rfl rfl)
theorem dX7_policy_28 : decode cX7_policy 28 = .ok (.iaload, 1) := dk_46 (dk_at dksX7_policy_1 4 rfl rfl)
theorem dX7_policy_29 : decode cX7_policy 29 = .ok (.bipush 24, 2) := dk_16 24 (dk_at dksX7_policy_1 5 rfl rfl)
theorem dX7_policy_31 : decode cX7_policy 31 = .ok (.isub, 1) := dk_100 (dk_at dksX7_policy_1 7 rfl rfl)
theorem dX7_policy_32 : decode cX7_policy 32 = .ok (.istore_n 1, 1) := dk_60 (dk_at dksX7_policy_1 8 rfl rfl)
theorem dX7_policy_33 : decode cX7_policy 33 = .ok (.iload_n 1, 1) := dk_27 (dk_at dksX7_policy_1 9 rfl rfl)
theorem dX7_policy_34 : decode cX7_policy 34 = .ok (.iconst 0, 1) := dk_3 (dk_at dksX7_policy_1 10 rfl rfl)
theorem dX7_policy_35 : decode cX7_policy 35 = .ok (.iconst 4, 1) := dk_7 (dk_at dksX7_policy_1 11 rfl rfl)
theorem dX7_policy_36 : decode cX7_policy 36 = .ok (.invokestatic 18, 3) := dk_184 0 18 (dk_at dksX7_policy_1 12 rfl rfl)
theorem dX7_policy_39 : decode cX7_policy 39 = .ok (.ifCond .ne 10, 3) := dk_154 0 10 (dk_at dksX7_policy_1 15 rfl rfl)
theorem dX7_policy_42 : decode cX7_policy 42 = .ok (.aload_n 0, 1) := dk_42 (dk_at dksX7_policy_1 18 rfl rfl)
theorem dX7_policy_43 : decode cX7_policy 43 = .ok (.invokevirtual 214, 3) := dk_182 0 214 (dk_at dksX7_policy_1 19 rfl rfl)
theorem dX7_policy_46 : decode cX7_policy 46 = .ok (.goto 13, 3) := dk_167 0 13 (dk_at dksX7_policy_2 0 rfl rfl)
theorem dX7_policy_49 : decode cX7_policy 49 = .ok (.aload_n 0, 1) := dk_42 (dk_at dksX7_policy_2 3 rfl rfl)
theorem dX7_policy_50 : decode cX7_policy 50 = .ok (.dup, 1) := dk_89 (dk_at dksX7_policy_2 4 rfl rfl)
theorem dX7_policy_51 : decode cX7_policy 51 = .ok (.getfield 208, 3) := dk_180 0 208 (dk_at dksX7_policy_2 5 rfl rfl)
theorem dX7_policy_54 : decode cX7_policy 54 = .ok (.iconst 1, 1) := dk_4 (dk_at dksX7_policy_2 8 rfl rfl)
theorem dX7_policy_55 : decode cX7_policy 55 = .ok (.iadd, 1) := dk_96 (dk_at dksX7_policy_2 9 rfl rfl)
theorem dX7_policy_56 : decode cX7_policy 56 = .ok (.putfield 208, 3) := dk_181 0 208 (dk_at dksX7_policy_2 10 rfl rfl)
theorem dX7_policy_59 : decode cX7_policy 59 = .ok (.aload_n 0, 1) := dk_42 (dk_at dksX7_policy_2 13 rfl rfl)
theorem dX7_policy_60 : decode cX7_policy 60 = .ok (.invokevirtual 204, 3) := dk_182 0 204 (dk_at dksX7_policy_2 14 rfl rfl)
theorem dX7_policy_63 : decode cX7_policy 63 = .ok (.ifCond .eq 18, 3) := dk_153 0 18 (dk_at dksX7_policy_2 17 rfl rfl)
theorem dX7_policy_66 : decode cX7_policy 66 = .ok (.aload_n 0, 1) := dk_42 (dk_at dksX7_policy_2 20 rfl rfl)
theorem dX7_policy_67 : decode cX7_policy 67 = .ok (.getfield 208, 3) := dk_180 0 208 (dk_at dksX7_policy_2 21 rfl rfl)
theorem dX7_policy_70 : decode cX7_policy 70 = .ok (.aload_n 0, 1) := dk_42 (dk_at dksX7_policy_3 0 rfl rfl)
theorem dX7_policy_71 : decode cX7_policy 71 = .ok (.getfield 188, 3) := dk_180 0 188 (dk_at dksX7_policy_3 1 rfl rfl)
theorem dX7_policy_74 : decode cX7_policy 74 = .ok (.if_icmp .ge 7, 3) := dk_162 0 7 (dk_at dksX7_policy_3 4 rfl rfl)
theorem dX7_policy_77 : decode cX7_policy 77 = .ok (.aload_n 0, 1) := dk_42 (dk_at dksX7_policy_3 7 rfl rfl)
theorem dX7_policy_78 : decode cX7_policy 78 = .ok (.invokevirtual 214, 3) := dk_182 0 214 (dk_at dksX7_policy_3 8 rfl rfl)
theorem dX7_policy_81 : decode cX7_policy 81 = .ok (.aload_n 0, 1) := dk_42 (dk_at dksX7_policy_3 11 rfl rfl)
theorem dX7_policy_82 : decode cX7_policy 82 = .ok (.aload_n 0, 1) := dk_42 (dk_at dksX7_policy_3 12 rfl rfl)
theorem dX7_policy_83 : decode cX7_policy 83 = .ok (.getfield 201, 3) := dk_180 0 201 (dk_at dksX7_policy_3 13 rfl rfl)
theorem dX7_policy_86 : decode cX7_policy 86 = .ok (.putfield 61, 3) := dk_181 0 61 (dk_at dksX7_policy_3 16 rfl rfl)
theorem dX7_policy_89 : decode cX7_policy 89 = .ok (.aload_n 0, 1) := dk_42 (dk_at dksX7_policy_3 19 rfl rfl)
theorem dX7_policy_90 : decode cX7_policy 90 = .ok (.invokevirtual 204, 3) := dk_182 0 204 (dk_at dksX7_policy_3 20 rfl rfl)
theorem dX7_policy_93 : decode cX7_policy 93 = .ok (.ifCond .ne 10, 3) := dk_154 0 10 (dk_at dksX7_policy_4 0 rfl rfl)
theorem dX7_policy_96 : decode cX7_policy 96 = .ok (.aload_n 0, 1) := dk_42 (dk_at dksX7_policy_4 3 rfl rfl)
theorem dX7_policy_97 : decode cX7_policy 97 = .ok (.bipush (-6), 2) := dk_16 250 (dk_at dksX7_policy_4 4 rfl rfl)
theorem dX7_policy_99 : decode cX7_policy 99 = .ok (.invokevirtual 146, 3) := dk_182 0 146 (dk_at dksX7_policy_4 6 rfl rfl)
theorem dX7_policy_102 : decode cX7_policy 102 = .ok (.ireturn, 1) := dk_172 (dk_at dksX7_policy_4 9 rfl rfl)
theorem dX7_policy_103 : decode cX7_policy 103 = .ok (.aload_n 0, 1) := dk_42 (dk_at dksX7_policy_4 10 rfl rfl)
theorem dX7_policy_104 : decode cX7_policy 104 = .ok (.getfield 28, 3) := dk_180 0 28 (dk_at dksX7_policy_4 11 rfl rfl)
theorem dX7_policy_107 : decode cX7_policy 107 = .ok (.sipush 369, 3) := dk_17 1 113 (dk_at dksX7_policy_4 14 rfl rfl)
theorem dX7_policy_110 : decode cX7_policy 110 = .ok (.iload_n 1, 1) := dk_27 (dk_at dksX7_policy_4 17 rfl rfl)
theorem dX7_policy_111 : decode cX7_policy 111 = .ok (.iastore, 1) := dk_79 (dk_at dksX7_policy_4 18 rfl rfl)
theorem dX7_policy_112 : decode cX7_policy 112 = .ok (.aload_n 0, 1) := dk_42 (dk_at dksX7_policy_4 19 rfl rfl)
theorem dX7_policy_113 : decode cX7_policy 113 = .ok (.iload_n 1, 1) := dk_27 (dk_at dksX7_policy_4 20 rfl rfl)
theorem dX7_policy_114 : decode cX7_policy 114 = .ok (.invokevirtual 14, 3) := dk_182 0 14 (dk_at dksX7_policy_4 21 rfl rfl)
theorem dX7_policy_117 : decode cX7_policy 117 = .ok (.ireturn, 1) := dk_172 (dk_at dksX7_policy_5 0 rfl rfl)
abbrev cX7_splits : ByteArray := prog_32_method_32_code
def yX7_splits : MethodName := ⟨RX7, "splits", "(I)V"⟩
def dkwX7_splits_12 : List UInt8 := [3, 79, 42, 180, 0, 67, 42, 180, 0, 188, 3, 79, 177]
abbrev dktX7_splits_12 : List UInt8 := dkwX7_splits_12 ++ []
def dkwX7_splits_11 : List UInt8 := [21, 4, 61, 167, 255, 3, 42, 180, 0, 70, 42, 180, 0, 188, 27, 79, 42, 180, 0, 64, 42, 180, 0, 188]
abbrev dktX7_splits_11 : List UInt8 := dkwX7_splits_11 ++ dktX7_splits_12
def dkwX7_splits_10 : List UInt8 := [21, 5, 51, 96, 16, 48, 100, 79, 132, 5, 1, 167, 255, 181, 42, 89, 180, 0, 188, 4, 96, 181, 0, 188]
abbrev dktX7_splits_10 : List UInt8 := dkwX7_splits_10 ++ dktX7_splits_11
def dkwX7_splits_9 : List UInt8 := [180, 0, 188, 46, 167, 0, 26, 16, 10, 42, 180, 0, 67, 42, 180, 0, 188, 46, 104, 42, 180, 0, 55]
abbrev dktX7_splits_9 : List UInt8 := dkwX7_splits_9 ++ dktX7_splits_10
def dkwX7_splits_8 : List UInt8 := [42, 180, 0, 188, 42, 180, 0, 67, 42, 180, 0, 188, 46, 18, 200, 164, 0, 15, 42, 180, 0, 67, 42]
abbrev dktX7_splits_8 : List UInt8 := dkwX7_splits_8 ++ dktX7_splits_9
def dkwX7_splits_7 : List UInt8 := [126, 96, 79, 28, 54, 5, 21, 5, 21, 4, 162, 0, 74, 29, 184, 0, 194, 153, 0, 67, 42, 180, 0, 67]
abbrev dktX7_splits_7 : List UInt8 := dkwX7_splits_7 ++ dktX7_splits_8
def dkwX7_splits_6 : List UInt8 := [182, 0, 197, 167, 0, 23, 29, 184, 0, 194, 153, 0, 8, 16, 50, 167, 0, 11, 16, 100, 29, 17, 0, 255]
abbrev dktX7_splits_6 : List UInt8 := dkwX7_splits_6 ++ dktX7_splits_7
def dkwX7_splits_5 : List UInt8 := [180, 0, 188, 3, 79, 42, 180, 0, 64, 42, 180, 0, 188, 29, 184, 0, 191, 153, 0, 13, 42, 28, 21, 4]
abbrev dktX7_splits_5 : List UInt8 := dkwX7_splits_5 ++ dktX7_splits_6
def dkwX7_splits_4 : List UInt8 := [153, 0, 9, 132, 4, 1, 167, 255, 234, 42, 180, 0, 70, 42, 180, 0, 188, 28, 79, 42, 180, 0, 67, 42]
abbrev dktX7_splits_4 : List UInt8 := dkwX7_splits_4 ++ dktX7_splits_5
def dkwX7_splits_3 : List UInt8 := [184, 0, 194, 153, 0, 28, 21, 4, 27, 162, 0, 22, 42, 180, 0, 55, 21, 4, 51, 184, 0, 194]
abbrev dktX7_splits_3 : List UInt8 := dkwX7_splits_3 ++ dktX7_splits_4
def dkwX7_splits_2 : List UInt8 := [162, 0, 22, 42, 180, 0, 55, 21, 4, 51, 184, 0, 191, 153, 0, 9, 132, 4, 1, 167, 255, 234, 29]
abbrev dktX7_splits_2 : List UInt8 := dkwX7_splits_2 ++ dktX7_splits_3
def dkwX7_splits_1 : List UInt8 := [160, 0, 9, 132, 2, 1, 167, 255, 235, 28, 4, 96, 54, 4, 29, 184, 0, 191, 153, 0, 28, 21, 4, 27]
abbrev dktX7_splits_1 : List UInt8 := dkwX7_splits_1 ++ dktX7_splits_2
def dkwX7_splits_0 : List UInt8 := [42, 3, 181, 0, 188, 3, 61, 28, 27, 162, 0, 254, 42, 180, 0, 55, 28, 51, 62, 29, 16, 32]
abbrev dktX7_splits_0 : List UInt8 := dkwX7_splits_0 ++ dktX7_splits_1
theorem dksX7_splits_0 : cX7_splits.data.toList.drop 0 = dktX7_splits_0 := by decide +kernel
theorem dksX7_splits_1 : cX7_splits.data.toList.drop 22 = dktX7_splits_1 := dk_seg dksX7_splits_0 22 rfl rfl
theorem dksX7_splits_2 : cX7_splits.data.toList.drop 46 = dktX7_splits_2 := dk_seg dksX7_splits_1 24 rfl rfl
theorem dksX7_splits_3 : cX7_splits.data.toList.drop 69 = dktX7_splits_3 := dk_seg dksX7_splits_2 23 rfl rfl
theorem dksX7_splits_4 : cX7_splits.data.toList.drop 91 = dktX7_splits_4 := dk_seg dksX7_splits_3 22 rfl rfl
theorem dksX7_splits_5 : cX7_splits.data.toList.drop 115 = dktX7_splits_5 := dk_seg dksX7_splits_4 24 rfl rfl
theorem dksX7_splits_6 : cX7_splits.data.toList.drop 139 = dktX7_splits_6 := dk_seg dksX7_splits_5 24 rfl rfl
theorem dksX7_splits_7 : cX7_splits.data.toList.drop 163 = dktX7_splits_7 := dk_seg dksX7_splits_6 24 rfl rfl
theorem dksX7_splits_8 : cX7_splits.data.toList.drop 187 = dktX7_splits_8 := dk_seg dksX7_splits_7 24 rfl rfl
theorem dksX7_splits_9 : cX7_splits.data.toList.drop 210 = dktX7_splits_9 := dk_seg dksX7_splits_8 23 rfl rfl
theorem dksX7_splits_10 : cX7_splits.data.toList.drop 233 = dktX7_splits_10 := dk_seg dksX7_splits_9 23 rfl rfl
theorem dksX7_splits_11 : cX7_splits.data.toList.drop 257 = dktX7_splits_11 := dk_seg dksX7_splits_10 24 rfl rfl
theorem dksX7_splits_12 : cX7_splits.data.toList.drop 281 = dktX7_splits_12 := dk_seg dksX7_splits_11 24 rfl rfl
theorem dX7_splits_0 : decode cX7_splits 0 = .ok (.aload_n 0, 1) := dk_42 (dk_at dksX7_splits_0 0 rfl rfl)
theorem dX7_splits_1 : decode cX7_splits 1 = .ok (.iconst 0, 1) := dk_3 (dk_at dksX7_splits_0 1 rfl rfl)
theorem dX7_splits_2 : decode cX7_splits 2 = .ok (.putfield 188, 3) := dk_181 0 188 (dk_at dksX7_splits_0 2 rfl rfl)
theorem dX7_splits_5 : decode cX7_splits 5 = .ok (.iconst 0, 1) := dk_3 (dk_at dksX7_splits_0 5 rfl rfl)
theorem dX7_splits_6 : decode cX7_splits 6 = .ok (.istore_n 2, 1) := dk_61 (dk_at dksX7_splits_0 6 rfl rfl)
theorem dX7_splits_7 : decode cX7_splits 7 = .ok (.iload_n 2, 1) := dk_28 (dk_at dksX7_splits_0 7 rfl rfl)
theorem dX7_splits_8 : decode cX7_splits 8 = .ok (.iload_n 1, 1) := dk_27 (dk_at dksX7_splits_0 8 rfl rfl)
theorem dX7_splits_9 : decode cX7_splits 9 = .ok (.if_icmp .ge 254, 3) := dk_162 0 254 (dk_at dksX7_splits_0 9 rfl rfl)
theorem dX7_splits_12 : decode cX7_splits 12 = .ok (.aload_n 0, 1) := dk_42 (dk_at dksX7_splits_0 12 rfl rfl)
theorem dX7_splits_13 : decode cX7_splits 13 = .ok (.getfield 55, 3) := dk_180 0 55 (dk_at dksX7_splits_0 13 rfl rfl)
theorem dX7_splits_16 : decode cX7_splits 16 = .ok (.iload_n 2, 1) := dk_28 (dk_at dksX7_splits_0 16 rfl rfl)
theorem dX7_splits_17 : decode cX7_splits 17 = .ok (.baload, 1) := dk_51 (dk_at dksX7_splits_0 17 rfl rfl)
theorem dX7_splits_18 : decode cX7_splits 18 = .ok (.istore_n 3, 1) := dk_62 (dk_at dksX7_splits_0 18 rfl rfl)
theorem dX7_splits_19 : decode cX7_splits 19 = .ok (.iload_n 3, 1) := dk_29 (dk_at dksX7_splits_0 19 rfl rfl)
theorem dX7_splits_20 : decode cX7_splits 20 = .ok (.bipush 32, 2) := dk_16 32 (dk_at dksX7_splits_0 20 rfl rfl)
theorem dX7_splits_22 : decode cX7_splits 22 = .ok (.if_icmp .ne 9, 3) := dk_160 0 9 (dk_at dksX7_splits_1 0 rfl rfl)
theorem dX7_splits_25 : decode cX7_splits 25 = .ok (.iinc 2 1, 3) := dk_132 2 1 (dk_at dksX7_splits_1 3 rfl rfl)
theorem dX7_splits_28 : decode cX7_splits 28 = .ok (.goto (-21), 3) := dk_167 255 235 (dk_at dksX7_splits_1 6 rfl rfl)
theorem dX7_splits_31 : decode cX7_splits 31 = .ok (.iload_n 2, 1) := dk_28 (dk_at dksX7_splits_1 9 rfl rfl)
theorem dX7_splits_32 : decode cX7_splits 32 = .ok (.iconst 1, 1) := dk_4 (dk_at dksX7_splits_1 10 rfl rfl)
theorem dX7_splits_33 : decode cX7_splits 33 = .ok (.iadd, 1) := dk_96 (dk_at dksX7_splits_1 11 rfl rfl)
theorem dX7_splits_34 : decode cX7_splits 34 = .ok (.istore 4, 2) := dk_54 4 (dk_at dksX7_splits_1 12 rfl rfl)
theorem dX7_splits_36 : decode cX7_splits 36 = .ok (.iload_n 3, 1) := dk_29 (dk_at dksX7_splits_1 14 rfl rfl)
theorem dX7_splits_37 : decode cX7_splits 37 = .ok (.invokestatic 191, 3) := dk_184 0 191 (dk_at dksX7_splits_1 15 rfl rfl)
theorem dX7_splits_40 : decode cX7_splits 40 = .ok (.ifCond .eq 28, 3) := dk_153 0 28 (dk_at dksX7_splits_1 18 rfl rfl)
theorem dX7_splits_43 : decode cX7_splits 43 = .ok (.iload 4, 2) := dk_21 4 (dk_at dksX7_splits_1 21 rfl rfl)
theorem dX7_splits_45 : decode cX7_splits 45 = .ok (.iload_n 1, 1) := dk_27 (dk_at dksX7_splits_1 23 rfl rfl)
theorem dX7_splits_46 : decode cX7_splits 46 = .ok (.if_icmp .ge 22, 3) := dk_162 0 22 (dk_at dksX7_splits_2 0 rfl rfl)
theorem dX7_splits_49 : decode cX7_splits 49 = .ok (.aload_n 0, 1) := dk_42 (dk_at dksX7_splits_2 3 rfl rfl)
theorem dX7_splits_50 : decode cX7_splits 50 = .ok (.getfield 55, 3) := dk_180 0 55 (dk_at dksX7_splits_2 4 rfl rfl)
theorem dX7_splits_53 : decode cX7_splits 53 = .ok (.iload 4, 2) := dk_21 4 (dk_at dksX7_splits_2 7 rfl rfl)
theorem dX7_splits_55 : decode cX7_splits 55 = .ok (.baload, 1) := dk_51 (dk_at dksX7_splits_2 9 rfl rfl)
theorem dX7_splits_56 : decode cX7_splits 56 = .ok (.invokestatic 191, 3) := dk_184 0 191 (dk_at dksX7_splits_2 10 rfl rfl)
theorem dX7_splits_59 : decode cX7_splits 59 = .ok (.ifCond .eq 9, 3) := dk_153 0 9 (dk_at dksX7_splits_2 13 rfl rfl)
theorem dX7_splits_62 : decode cX7_splits 62 = .ok (.iinc 4 1, 3) := dk_132 4 1 (dk_at dksX7_splits_2 16 rfl rfl)
theorem dX7_splits_65 : decode cX7_splits 65 = .ok (.goto (-22), 3) := dk_167 255 234 (dk_at dksX7_splits_2 19 rfl rfl)
theorem dX7_splits_68 : decode cX7_splits 68 = .ok (.iload_n 3, 1) := dk_29 (dk_at dksX7_splits_2 22 rfl rfl)
theorem dX7_splits_69 : decode cX7_splits 69 = .ok (.invokestatic 194, 3) := dk_184 0 194 (dk_at dksX7_splits_3 0 rfl rfl)
theorem dX7_splits_72 : decode cX7_splits 72 = .ok (.ifCond .eq 28, 3) := dk_153 0 28 (dk_at dksX7_splits_3 3 rfl rfl)
theorem dX7_splits_75 : decode cX7_splits 75 = .ok (.iload 4, 2) := dk_21 4 (dk_at dksX7_splits_3 6 rfl rfl)
theorem dX7_splits_77 : decode cX7_splits 77 = .ok (.iload_n 1, 1) := dk_27 (dk_at dksX7_splits_3 8 rfl rfl)
theorem dX7_splits_78 : decode cX7_splits 78 = .ok (.if_icmp .ge 22, 3) := dk_162 0 22 (dk_at dksX7_splits_3 9 rfl rfl)
theorem dX7_splits_81 : decode cX7_splits 81 = .ok (.aload_n 0, 1) := dk_42 (dk_at dksX7_splits_3 12 rfl rfl)
theorem dX7_splits_82 : decode cX7_splits 82 = .ok (.getfield 55, 3) := dk_180 0 55 (dk_at dksX7_splits_3 13 rfl rfl)
theorem dX7_splits_85 : decode cX7_splits 85 = .ok (.iload 4, 2) := dk_21 4 (dk_at dksX7_splits_3 16 rfl rfl)
theorem dX7_splits_87 : decode cX7_splits 87 = .ok (.baload, 1) := dk_51 (dk_at dksX7_splits_3 18 rfl rfl)
theorem dX7_splits_88 : decode cX7_splits 88 = .ok (.invokestatic 194, 3) := dk_184 0 194 (dk_at dksX7_splits_3 19 rfl rfl)
theorem dX7_splits_91 : decode cX7_splits 91 = .ok (.ifCond .eq 9, 3) := dk_153 0 9 (dk_at dksX7_splits_4 0 rfl rfl)
theorem dX7_splits_94 : decode cX7_splits 94 = .ok (.iinc 4 1, 3) := dk_132 4 1 (dk_at dksX7_splits_4 3 rfl rfl)
theorem dX7_splits_97 : decode cX7_splits 97 = .ok (.goto (-22), 3) := dk_167 255 234 (dk_at dksX7_splits_4 6 rfl rfl)
theorem dX7_splits_100 : decode cX7_splits 100 = .ok (.aload_n 0, 1) := dk_42 (dk_at dksX7_splits_4 9 rfl rfl)
theorem dX7_splits_101 : decode cX7_splits 101 = .ok (.getfield 70, 3) := dk_180 0 70 (dk_at dksX7_splits_4 10 rfl rfl)
theorem dX7_splits_104 : decode cX7_splits 104 = .ok (.aload_n 0, 1) := dk_42 (dk_at dksX7_splits_4 13 rfl rfl)
theorem dX7_splits_105 : decode cX7_splits 105 = .ok (.getfield 188, 3) := dk_180 0 188 (dk_at dksX7_splits_4 14 rfl rfl)
theorem dX7_splits_108 : decode cX7_splits 108 = .ok (.iload_n 2, 1) := dk_28 (dk_at dksX7_splits_4 17 rfl rfl)
theorem dX7_splits_109 : decode cX7_splits 109 = .ok (.iastore, 1) := dk_79 (dk_at dksX7_splits_4 18 rfl rfl)
theorem dX7_splits_110 : decode cX7_splits 110 = .ok (.aload_n 0, 1) := dk_42 (dk_at dksX7_splits_4 19 rfl rfl)
theorem dX7_splits_111 : decode cX7_splits 111 = .ok (.getfield 67, 3) := dk_180 0 67 (dk_at dksX7_splits_4 20 rfl rfl)
theorem dX7_splits_114 : decode cX7_splits 114 = .ok (.aload_n 0, 1) := dk_42 (dk_at dksX7_splits_4 23 rfl rfl)
theorem dX7_splits_115 : decode cX7_splits 115 = .ok (.getfield 188, 3) := dk_180 0 188 (dk_at dksX7_splits_5 0 rfl rfl)
theorem dX7_splits_118 : decode cX7_splits 118 = .ok (.iconst 0, 1) := dk_3 (dk_at dksX7_splits_5 3 rfl rfl)
theorem dX7_splits_119 : decode cX7_splits 119 = .ok (.iastore, 1) := dk_79 (dk_at dksX7_splits_5 4 rfl rfl)
theorem dX7_splits_120 : decode cX7_splits 120 = .ok (.aload_n 0, 1) := dk_42 (dk_at dksX7_splits_5 5 rfl rfl)
theorem dX7_splits_121 : decode cX7_splits 121 = .ok (.getfield 64, 3) := dk_180 0 64 (dk_at dksX7_splits_5 6 rfl rfl)
theorem dX7_splits_124 : decode cX7_splits 124 = .ok (.aload_n 0, 1) := dk_42 (dk_at dksX7_splits_5 9 rfl rfl)
theorem dX7_splits_125 : decode cX7_splits 125 = .ok (.getfield 188, 3) := dk_180 0 188 (dk_at dksX7_splits_5 10 rfl rfl)
theorem dX7_splits_128 : decode cX7_splits 128 = .ok (.iload_n 3, 1) := dk_29 (dk_at dksX7_splits_5 13 rfl rfl)
theorem dX7_splits_129 : decode cX7_splits 129 = .ok (.invokestatic 191, 3) := dk_184 0 191 (dk_at dksX7_splits_5 14 rfl rfl)
theorem dX7_splits_132 : decode cX7_splits 132 = .ok (.ifCond .eq 13, 3) := dk_153 0 13 (dk_at dksX7_splits_5 17 rfl rfl)
theorem dX7_splits_135 : decode cX7_splits 135 = .ok (.aload_n 0, 1) := dk_42 (dk_at dksX7_splits_5 20 rfl rfl)
theorem dX7_splits_136 : decode cX7_splits 136 = .ok (.iload_n 2, 1) := dk_28 (dk_at dksX7_splits_5 21 rfl rfl)
theorem dX7_splits_137 : decode cX7_splits 137 = .ok (.iload 4, 2) := dk_21 4 (dk_at dksX7_splits_5 22 rfl rfl)
theorem dX7_splits_139 : decode cX7_splits 139 = .ok (.invokevirtual 197, 3) := dk_182 0 197 (dk_at dksX7_splits_6 0 rfl rfl)
theorem dX7_splits_142 : decode cX7_splits 142 = .ok (.goto 23, 3) := dk_167 0 23 (dk_at dksX7_splits_6 3 rfl rfl)
theorem dX7_splits_145 : decode cX7_splits 145 = .ok (.iload_n 3, 1) := dk_29 (dk_at dksX7_splits_6 6 rfl rfl)
theorem dX7_splits_146 : decode cX7_splits 146 = .ok (.invokestatic 194, 3) := dk_184 0 194 (dk_at dksX7_splits_6 7 rfl rfl)
theorem dX7_splits_149 : decode cX7_splits 149 = .ok (.ifCond .eq 8, 3) := dk_153 0 8 (dk_at dksX7_splits_6 10 rfl rfl)
theorem dX7_splits_152 : decode cX7_splits 152 = .ok (.bipush 50, 2) := dk_16 50 (dk_at dksX7_splits_6 13 rfl rfl)
theorem dX7_splits_154 : decode cX7_splits 154 = .ok (.goto 11, 3) := dk_167 0 11 (dk_at dksX7_splits_6 15 rfl rfl)
theorem dX7_splits_157 : decode cX7_splits 157 = .ok (.bipush 100, 2) := dk_16 100 (dk_at dksX7_splits_6 18 rfl rfl)
theorem dX7_splits_159 : decode cX7_splits 159 = .ok (.iload_n 3, 1) := dk_29 (dk_at dksX7_splits_6 20 rfl rfl)
theorem dX7_splits_160 : decode cX7_splits 160 = .ok (.sipush 255, 3) := dk_17 0 255 (dk_at dksX7_splits_6 21 rfl rfl)
theorem dX7_splits_163 : decode cX7_splits 163 = .ok (.iand, 1) := dk_126 (dk_at dksX7_splits_7 0 rfl rfl)
theorem dX7_splits_164 : decode cX7_splits 164 = .ok (.iadd, 1) := dk_96 (dk_at dksX7_splits_7 1 rfl rfl)
theorem dX7_splits_165 : decode cX7_splits 165 = .ok (.iastore, 1) := dk_79 (dk_at dksX7_splits_7 2 rfl rfl)
theorem dX7_splits_166 : decode cX7_splits 166 = .ok (.iload_n 2, 1) := dk_28 (dk_at dksX7_splits_7 3 rfl rfl)
theorem dX7_splits_167 : decode cX7_splits 167 = .ok (.istore 5, 2) := dk_54 5 (dk_at dksX7_splits_7 4 rfl rfl)
theorem dX7_splits_169 : decode cX7_splits 169 = .ok (.iload 5, 2) := dk_21 5 (dk_at dksX7_splits_7 6 rfl rfl)
theorem dX7_splits_171 : decode cX7_splits 171 = .ok (.iload 4, 2) := dk_21 4 (dk_at dksX7_splits_7 8 rfl rfl)
theorem dX7_splits_173 : decode cX7_splits 173 = .ok (.if_icmp .ge 74, 3) := dk_162 0 74 (dk_at dksX7_splits_7 10 rfl rfl)
theorem dX7_splits_176 : decode cX7_splits 176 = .ok (.iload_n 3, 1) := dk_29 (dk_at dksX7_splits_7 13 rfl rfl)
theorem dX7_splits_177 : decode cX7_splits 177 = .ok (.invokestatic 194, 3) := dk_184 0 194 (dk_at dksX7_splits_7 14 rfl rfl)
theorem dX7_splits_180 : decode cX7_splits 180 = .ok (.ifCond .eq 67, 3) := dk_153 0 67 (dk_at dksX7_splits_7 17 rfl rfl)
theorem dX7_splits_183 : decode cX7_splits 183 = .ok (.aload_n 0, 1) := dk_42 (dk_at dksX7_splits_7 20 rfl rfl)
theorem dX7_splits_184 : decode cX7_splits 184 = .ok (.getfield 67, 3) := dk_180 0 67 (dk_at dksX7_splits_7 21 rfl rfl)
theorem dX7_splits_187 : decode cX7_splits 187 = .ok (.aload_n 0, 1) := dk_42 (dk_at dksX7_splits_8 0 rfl rfl)
theorem dX7_splits_188 : decode cX7_splits 188 = .ok (.getfield 188, 3) := dk_180 0 188 (dk_at dksX7_splits_8 1 rfl rfl)
theorem dX7_splits_191 : decode cX7_splits 191 = .ok (.aload_n 0, 1) := dk_42 (dk_at dksX7_splits_8 4 rfl rfl)
theorem dX7_splits_192 : decode cX7_splits 192 = .ok (.getfield 67, 3) := dk_180 0 67 (dk_at dksX7_splits_8 5 rfl rfl)
theorem dX7_splits_195 : decode cX7_splits 195 = .ok (.aload_n 0, 1) := dk_42 (dk_at dksX7_splits_8 8 rfl rfl)
theorem dX7_splits_196 : decode cX7_splits 196 = .ok (.getfield 188, 3) := dk_180 0 188 (dk_at dksX7_splits_8 9 rfl rfl)
theorem dX7_splits_199 : decode cX7_splits 199 = .ok (.iaload, 1) := dk_46 (dk_at dksX7_splits_8 12 rfl rfl)
theorem dX7_splits_200 : decode cX7_splits 200 = .ok (.ldc 200, 2) := dk_18 200 (dk_at dksX7_splits_8 13 rfl rfl)
theorem dX7_splits_202 : decode cX7_splits 202 = .ok (.if_icmp .le 15, 3) := dk_164 0 15 (dk_at dksX7_splits_8 15 rfl rfl)
theorem dX7_splits_205 : decode cX7_splits 205 = .ok (.aload_n 0, 1) := dk_42 (dk_at dksX7_splits_8 18 rfl rfl)
theorem dX7_splits_206 : decode cX7_splits 206 = .ok (.getfield 67, 3) := dk_180 0 67 (dk_at dksX7_splits_8 19 rfl rfl)
theorem dX7_splits_209 : decode cX7_splits 209 = .ok (.aload_n 0, 1) := dk_42 (dk_at dksX7_splits_8 22 rfl rfl)
theorem dX7_splits_210 : decode cX7_splits 210 = .ok (.getfield 188, 3) := dk_180 0 188 (dk_at dksX7_splits_9 0 rfl rfl)
theorem dX7_splits_213 : decode cX7_splits 213 = .ok (.iaload, 1) := dk_46 (dk_at dksX7_splits_9 3 rfl rfl)
theorem dX7_splits_214 : decode cX7_splits 214 = .ok (.goto 26, 3) := dk_167 0 26 (dk_at dksX7_splits_9 4 rfl rfl)
theorem dX7_splits_217 : decode cX7_splits 217 = .ok (.bipush 10, 2) := dk_16 10 (dk_at dksX7_splits_9 7 rfl rfl)
theorem dX7_splits_219 : decode cX7_splits 219 = .ok (.aload_n 0, 1) := dk_42 (dk_at dksX7_splits_9 9 rfl rfl)
theorem dX7_splits_220 : decode cX7_splits 220 = .ok (.getfield 67, 3) := dk_180 0 67 (dk_at dksX7_splits_9 10 rfl rfl)
theorem dX7_splits_223 : decode cX7_splits 223 = .ok (.aload_n 0, 1) := dk_42 (dk_at dksX7_splits_9 13 rfl rfl)
theorem dX7_splits_224 : decode cX7_splits 224 = .ok (.getfield 188, 3) := dk_180 0 188 (dk_at dksX7_splits_9 14 rfl rfl)
theorem dX7_splits_227 : decode cX7_splits 227 = .ok (.iaload, 1) := dk_46 (dk_at dksX7_splits_9 17 rfl rfl)
theorem dX7_splits_228 : decode cX7_splits 228 = .ok (.imul, 1) := dk_104 (dk_at dksX7_splits_9 18 rfl rfl)
theorem dX7_splits_229 : decode cX7_splits 229 = .ok (.aload_n 0, 1) := dk_42 (dk_at dksX7_splits_9 19 rfl rfl)
theorem dX7_splits_230 : decode cX7_splits 230 = .ok (.getfield 55, 3) := dk_180 0 55 (dk_at dksX7_splits_9 20 rfl rfl)
theorem dX7_splits_233 : decode cX7_splits 233 = .ok (.iload 5, 2) := dk_21 5 (dk_at dksX7_splits_10 0 rfl rfl)
theorem dX7_splits_235 : decode cX7_splits 235 = .ok (.baload, 1) := dk_51 (dk_at dksX7_splits_10 2 rfl rfl)
theorem dX7_splits_236 : decode cX7_splits 236 = .ok (.iadd, 1) := dk_96 (dk_at dksX7_splits_10 3 rfl rfl)
theorem dX7_splits_237 : decode cX7_splits 237 = .ok (.bipush 48, 2) := dk_16 48 (dk_at dksX7_splits_10 4 rfl rfl)
theorem dX7_splits_239 : decode cX7_splits 239 = .ok (.isub, 1) := dk_100 (dk_at dksX7_splits_10 6 rfl rfl)
theorem dX7_splits_240 : decode cX7_splits 240 = .ok (.iastore, 1) := dk_79 (dk_at dksX7_splits_10 7 rfl rfl)
theorem dX7_splits_241 : decode cX7_splits 241 = .ok (.iinc 5 1, 3) := dk_132 5 1 (dk_at dksX7_splits_10 8 rfl rfl)
theorem dX7_splits_244 : decode cX7_splits 244 = .ok (.goto (-75), 3) := dk_167 255 181 (dk_at dksX7_splits_10 11 rfl rfl)
theorem dX7_splits_247 : decode cX7_splits 247 = .ok (.aload_n 0, 1) := dk_42 (dk_at dksX7_splits_10 14 rfl rfl)
theorem dX7_splits_248 : decode cX7_splits 248 = .ok (.dup, 1) := dk_89 (dk_at dksX7_splits_10 15 rfl rfl)
theorem dX7_splits_249 : decode cX7_splits 249 = .ok (.getfield 188, 3) := dk_180 0 188 (dk_at dksX7_splits_10 16 rfl rfl)
theorem dX7_splits_252 : decode cX7_splits 252 = .ok (.iconst 1, 1) := dk_4 (dk_at dksX7_splits_10 19 rfl rfl)
theorem dX7_splits_253 : decode cX7_splits 253 = .ok (.iadd, 1) := dk_96 (dk_at dksX7_splits_10 20 rfl rfl)
theorem dX7_splits_254 : decode cX7_splits 254 = .ok (.putfield 188, 3) := dk_181 0 188 (dk_at dksX7_splits_10 21 rfl rfl)
theorem dX7_splits_257 : decode cX7_splits 257 = .ok (.iload 4, 2) := dk_21 4 (dk_at dksX7_splits_11 0 rfl rfl)
theorem dX7_splits_259 : decode cX7_splits 259 = .ok (.istore_n 2, 1) := dk_61 (dk_at dksX7_splits_11 2 rfl rfl)
theorem dX7_splits_260 : decode cX7_splits 260 = .ok (.goto (-253), 3) := dk_167 255 3 (dk_at dksX7_splits_11 3 rfl rfl)
theorem dX7_splits_263 : decode cX7_splits 263 = .ok (.aload_n 0, 1) := dk_42 (dk_at dksX7_splits_11 6 rfl rfl)
theorem dX7_splits_264 : decode cX7_splits 264 = .ok (.getfield 70, 3) := dk_180 0 70 (dk_at dksX7_splits_11 7 rfl rfl)
theorem dX7_splits_267 : decode cX7_splits 267 = .ok (.aload_n 0, 1) := dk_42 (dk_at dksX7_splits_11 10 rfl rfl)
theorem dX7_splits_268 : decode cX7_splits 268 = .ok (.getfield 188, 3) := dk_180 0 188 (dk_at dksX7_splits_11 11 rfl rfl)
theorem dX7_splits_271 : decode cX7_splits 271 = .ok (.iload_n 1, 1) := dk_27 (dk_at dksX7_splits_11 14 rfl rfl)
theorem dX7_splits_272 : decode cX7_splits 272 = .ok (.iastore, 1) := dk_79 (dk_at dksX7_splits_11 15 rfl rfl)
theorem dX7_splits_273 : decode cX7_splits 273 = .ok (.aload_n 0, 1) := dk_42 (dk_at dksX7_splits_11 16 rfl rfl)
theorem dX7_splits_274 : decode cX7_splits 274 = .ok (.getfield 64, 3) := dk_180 0 64 (dk_at dksX7_splits_11 17 rfl rfl)
theorem dX7_splits_277 : decode cX7_splits 277 = .ok (.aload_n 0, 1) := dk_42 (dk_at dksX7_splits_11 20 rfl rfl)
theorem dX7_splits_278 : decode cX7_splits 278 = .ok (.getfield 188, 3) := dk_180 0 188 (dk_at dksX7_splits_11 21 rfl rfl)
theorem dX7_splits_281 : decode cX7_splits 281 = .ok (.iconst 0, 1) := dk_3 (dk_at dksX7_splits_12 0 rfl rfl)
theorem dX7_splits_282 : decode cX7_splits 282 = .ok (.iastore, 1) := dk_79 (dk_at dksX7_splits_12 1 rfl rfl)
theorem dX7_splits_283 : decode cX7_splits 283 = .ok (.aload_n 0, 1) := dk_42 (dk_at dksX7_splits_12 2 rfl rfl)
theorem dX7_splits_284 : decode cX7_splits 284 = .ok (.getfield 67, 3) := dk_180 0 67 (dk_at dksX7_splits_12 3 rfl rfl)
theorem dX7_splits_287 : decode cX7_splits 287 = .ok (.aload_n 0, 1) := dk_42 (dk_at dksX7_splits_12 6 rfl rfl)
theorem dX7_splits_288 : decode cX7_splits 288 = .ok (.getfield 188, 3) := dk_180 0 188 (dk_at dksX7_splits_12 7 rfl rfl)
theorem dX7_splits_291 : decode cX7_splits 291 = .ok (.iconst 0, 1) := dk_3 (dk_at dksX7_splits_12 10 rfl rfl)
theorem dX7_splits_292 : decode cX7_splits 292 = .ok (.iastore, 1) := dk_79 (dk_at dksX7_splits_12 11 rfl rfl)
theorem dX7_splits_293 : decode cX7_splits 293 = .ok (.return_, 1) := dk_177 (dk_at dksX7_splits_12 12 rfl rfl)
abbrev cX7_isSmall : ByteArray := prog_32_method_29_code
def yX7_isSmall : MethodName := ⟨RX7, "isSmall", "(I)Z"⟩
def dkwX7_isSmall_0 : List UInt8 := [26, 16, 97, 161, 0, 13, 26, 16, 122, 163, 0, 7, 4, 167, 0, 4, 3, 172]
abbrev dktX7_isSmall_0 : List UInt8 := dkwX7_isSmall_0 ++ []
theorem dksX7_isSmall_0 : cX7_isSmall.data.toList.drop 0 = dktX7_isSmall_0 := by decide +kernel
theorem dX7_isSmall_0 : decode cX7_isSmall 0 = .ok (.iload_n 0, 1) := dk_26 (dk_at dksX7_isSmall_0 0 rfl rfl)
theorem dX7_isSmall_1 : decode cX7_isSmall 1 = .ok (.bipush 97, 2) := dk_16 97 (dk_at dksX7_isSmall_0 1 rfl rfl)
theorem dX7_isSmall_3 : decode cX7_isSmall 3 = .ok (.if_icmp .lt 13, 3) := dk_161 0 13 (dk_at dksX7_isSmall_0 3 rfl rfl)
theorem dX7_isSmall_6 : decode cX7_isSmall 6 = .ok (.iload_n 0, 1) := dk_26 (dk_at dksX7_isSmall_0 6 rfl rfl)
theorem dX7_isSmall_7 : decode cX7_isSmall 7 = .ok (.bipush 122, 2) := dk_16 122 (dk_at dksX7_isSmall_0 7 rfl rfl)
theorem dX7_isSmall_9 : decode cX7_isSmall 9 = .ok (.if_icmp .gt 7, 3) := dk_163 0 7 (dk_at dksX7_isSmall_0 9 rfl rfl)
theorem dX7_isSmall_12 : decode cX7_isSmall 12 = .ok (.iconst 1, 1) := dk_4 (dk_at dksX7_isSmall_0 12 rfl rfl)
theorem dX7_isSmall_13 : decode cX7_isSmall 13 = .ok (.goto 4, 3) := dk_167 0 4 (dk_at dksX7_isSmall_0 13 rfl rfl)
theorem dX7_isSmall_16 : decode cX7_isSmall 16 = .ok (.iconst 0, 1) := dk_3 (dk_at dksX7_isSmall_0 16 rfl rfl)
theorem dX7_isSmall_17 : decode cX7_isSmall 17 = .ok (.ireturn, 1) := dk_172 (dk_at dksX7_isSmall_0 17 rfl rfl)
abbrev cX7_isDigit : ByteArray := prog_32_method_30_code
def yX7_isDigit : MethodName := ⟨RX7, "isDigit", "(I)Z"⟩
def dkwX7_isDigit_0 : List UInt8 := [26, 16, 48, 161, 0, 13, 26, 16, 57, 163, 0, 7, 4, 167, 0, 4, 3, 172]
abbrev dktX7_isDigit_0 : List UInt8 := dkwX7_isDigit_0 ++ []
theorem dksX7_isDigit_0 : cX7_isDigit.data.toList.drop 0 = dktX7_isDigit_0 := by decide +kernel
theorem dX7_isDigit_0 : decode cX7_isDigit 0 = .ok (.iload_n 0, 1) := dk_26 (dk_at dksX7_isDigit_0 0 rfl rfl)
theorem dX7_isDigit_1 : decode cX7_isDigit 1 = .ok (.bipush 48, 2) := dk_16 48 (dk_at dksX7_isDigit_0 1 rfl rfl)
theorem dX7_isDigit_3 : decode cX7_isDigit 3 = .ok (.if_icmp .lt 13, 3) := dk_161 0 13 (dk_at dksX7_isDigit_0 3 rfl rfl)
theorem dX7_isDigit_6 : decode cX7_isDigit 6 = .ok (.iload_n 0, 1) := dk_26 (dk_at dksX7_isDigit_0 6 rfl rfl)
theorem dX7_isDigit_7 : decode cX7_isDigit 7 = .ok (.bipush 57, 2) := dk_16 57 (dk_at dksX7_isDigit_0 7 rfl rfl)
theorem dX7_isDigit_9 : decode cX7_isDigit 9 = .ok (.if_icmp .gt 7, 3) := dk_163 0 7 (dk_at dksX7_isDigit_0 9 rfl rfl)
theorem dX7_isDigit_12 : decode cX7_isDigit 12 = .ok (.iconst 1, 1) := dk_4 (dk_at dksX7_isDigit_0 12 rfl rfl)
theorem dX7_isDigit_13 : decode cX7_isDigit 13 = .ok (.goto 4, 3) := dk_167 0 4 (dk_at dksX7_isDigit_0 13 rfl rfl)
theorem dX7_isDigit_16 : decode cX7_isDigit 16 = .ok (.iconst 0, 1) := dk_3 (dk_at dksX7_isDigit_0 16 rfl rfl)
theorem dX7_isDigit_17 : decode cX7_isDigit 17 = .ok (.ireturn, 1) := dk_172 (dk_at dksX7_isDigit_0 17 rfl rfl)
abbrev cX7_wordOf : ByteArray := prog_32_method_31_code
def yX7_wordOf : MethodName := ⟨RX7, "wordOf", "(II)I"⟩
def dkwX7_wordOf_5 : List UInt8 := [96, 96, 54, 4, 132, 3, 1, 167, 255, 138, 3, 172]
abbrev dktX7_wordOf_5 : List UInt8 := dkwX7_wordOf_5 ++ []
def dkwX7_wordOf_4 : List UInt8 := [167, 0, 4, 3, 54, 6, 132, 7, 1, 167, 255, 212, 21, 6, 153, 0, 5, 29, 172, 21, 4, 21, 5, 4]
abbrev dktX7_wordOf_4 : List UInt8 := dkwX7_wordOf_4 ++ dktX7_wordOf_5
def dkwX7_wordOf_3 : List UInt8 := [180, 0, 51, 21, 4, 21, 7, 96, 51, 42, 180, 0, 55, 27, 21, 7, 96, 51, 160, 0, 7, 4]
abbrev dktX7_wordOf_3 : List UInt8 := dkwX7_wordOf_3 ++ dktX7_wordOf_4
def dkwX7_wordOf_2 : List UInt8 := [167, 0, 4, 3, 54, 6, 3, 54, 7, 21, 7, 21, 5, 162, 0, 43, 21, 6, 153, 0, 38, 42]
abbrev dktX7_wordOf_2 : List UInt8 := dkwX7_wordOf_2 ++ dktX7_wordOf_3
def dkwX7_wordOf_1 : List UInt8 := [21, 5, 96, 51, 16, 32, 159, 0, 9, 132, 5, 1, 167, 255, 238, 21, 5, 28, 27, 100, 160, 0, 7, 4]
abbrev dktX7_wordOf_1 : List UInt8 := dkwX7_wordOf_1 ++ dktX7_wordOf_2
def dkwX7_wordOf_0 : List UInt8 := [4, 62, 3, 54, 4, 21, 4, 42, 180, 0, 51, 190, 162, 0, 114, 3, 54, 5, 42, 180, 0, 51, 21, 4]
abbrev dktX7_wordOf_0 : List UInt8 := dkwX7_wordOf_0 ++ dktX7_wordOf_1
theorem dksX7_wordOf_0 : cX7_wordOf.data.toList.drop 0 = dktX7_wordOf_0 := by decide +kernel
theorem dksX7_wordOf_1 : cX7_wordOf.data.toList.drop 24 = dktX7_wordOf_1 := dk_seg dksX7_wordOf_0 24 rfl rfl
theorem dksX7_wordOf_2 : cX7_wordOf.data.toList.drop 48 = dktX7_wordOf_2 := dk_seg dksX7_wordOf_1 24 rfl rfl
theorem dksX7_wordOf_3 : cX7_wordOf.data.toList.drop 70 = dktX7_wordOf_3 := dk_seg dksX7_wordOf_2 22 rfl rfl
theorem dksX7_wordOf_4 : cX7_wordOf.data.toList.drop 92 = dktX7_wordOf_4 := dk_seg dksX7_wordOf_3 22 rfl rfl
theorem dksX7_wordOf_5 : cX7_wordOf.data.toList.drop 116 = dktX7_wordOf_5 := dk_seg dksX7_wordOf_4 24 rfl rfl
theorem dX7_wordOf_0 : decode cX7_wordOf 0 = .ok (.iconst 1, 1) := dk_4 (dk_at dksX7_wordOf_0 0 rfl rfl)
theorem dX7_wordOf_1 : decode cX7_wordOf 1 = .ok (.istore_n 3, 1) := dk_62 (dk_at dksX7_wordOf_0 1 rfl rfl)
theorem dX7_wordOf_2 : decode cX7_wordOf 2 = .ok (.iconst 0, 1) := dk_3 (dk_at dksX7_wordOf_0 2 rfl rfl)
theorem dX7_wordOf_3 : decode cX7_wordOf 3 = .ok (.istore 4, 2) := dk_54 4 (dk_at dksX7_wordOf_0 3 rfl rfl)
theorem dX7_wordOf_5 : decode cX7_wordOf 5 = .ok (.iload 4, 2) := dk_21 4 (dk_at dksX7_wordOf_0 5 rfl rfl)
theorem dX7_wordOf_7 : decode cX7_wordOf 7 = .ok (.aload_n 0, 1) := dk_42 (dk_at dksX7_wordOf_0 7 rfl rfl)
theorem dX7_wordOf_8 : decode cX7_wordOf 8 = .ok (.getfield 51, 3) := dk_180 0 51 (dk_at dksX7_wordOf_0 8 rfl rfl)
theorem dX7_wordOf_11 : decode cX7_wordOf 11 = .ok (.arraylength, 1) := dk_190 (dk_at dksX7_wordOf_0 11 rfl rfl)
theorem dX7_wordOf_12 : decode cX7_wordOf 12 = .ok (.if_icmp .ge 114, 3) := dk_162 0 114 (dk_at dksX7_wordOf_0 12 rfl rfl)
theorem dX7_wordOf_15 : decode cX7_wordOf 15 = .ok (.iconst 0, 1) := dk_3 (dk_at dksX7_wordOf_0 15 rfl rfl)
theorem dX7_wordOf_16 : decode cX7_wordOf 16 = .ok (.istore 5, 2) := dk_54 5 (dk_at dksX7_wordOf_0 16 rfl rfl)
theorem dX7_wordOf_18 : decode cX7_wordOf 18 = .ok (.aload_n 0, 1) := dk_42 (dk_at dksX7_wordOf_0 18 rfl rfl)
theorem dX7_wordOf_19 : decode cX7_wordOf 19 = .ok (.getfield 51, 3) := dk_180 0 51 (dk_at dksX7_wordOf_0 19 rfl rfl)
theorem dX7_wordOf_22 : decode cX7_wordOf 22 = .ok (.iload 4, 2) := dk_21 4 (dk_at dksX7_wordOf_0 22 rfl rfl)
theorem dX7_wordOf_24 : decode cX7_wordOf 24 = .ok (.iload 5, 2) := dk_21 5 (dk_at dksX7_wordOf_1 0 rfl rfl)
theorem dX7_wordOf_26 : decode cX7_wordOf 26 = .ok (.iadd, 1) := dk_96 (dk_at dksX7_wordOf_1 2 rfl rfl)
theorem dX7_wordOf_27 : decode cX7_wordOf 27 = .ok (.baload, 1) := dk_51 (dk_at dksX7_wordOf_1 3 rfl rfl)
theorem dX7_wordOf_28 : decode cX7_wordOf 28 = .ok (.bipush 32, 2) := dk_16 32 (dk_at dksX7_wordOf_1 4 rfl rfl)
theorem dX7_wordOf_30 : decode cX7_wordOf 30 = .ok (.if_icmp .eq 9, 3) := dk_159 0 9 (dk_at dksX7_wordOf_1 6 rfl rfl)
theorem dX7_wordOf_33 : decode cX7_wordOf 33 = .ok (.iinc 5 1, 3) := dk_132 5 1 (dk_at dksX7_wordOf_1 9 rfl rfl)
theorem dX7_wordOf_36 : decode cX7_wordOf 36 = .ok (.goto (-18), 3) := dk_167 255 238 (dk_at dksX7_wordOf_1 12 rfl rfl)
theorem dX7_wordOf_39 : decode cX7_wordOf 39 = .ok (.iload 5, 2) := dk_21 5 (dk_at dksX7_wordOf_1 15 rfl rfl)
theorem dX7_wordOf_41 : decode cX7_wordOf 41 = .ok (.iload_n 2, 1) := dk_28 (dk_at dksX7_wordOf_1 17 rfl rfl)
theorem dX7_wordOf_42 : decode cX7_wordOf 42 = .ok (.iload_n 1, 1) := dk_27 (dk_at dksX7_wordOf_1 18 rfl rfl)
theorem dX7_wordOf_43 : decode cX7_wordOf 43 = .ok (.isub, 1) := dk_100 (dk_at dksX7_wordOf_1 19 rfl rfl)
theorem dX7_wordOf_44 : decode cX7_wordOf 44 = .ok (.if_icmp .ne 7, 3) := dk_160 0 7 (dk_at dksX7_wordOf_1 20 rfl rfl)
theorem dX7_wordOf_47 : decode cX7_wordOf 47 = .ok (.iconst 1, 1) := dk_4 (dk_at dksX7_wordOf_1 23 rfl rfl)
theorem dX7_wordOf_48 : decode cX7_wordOf 48 = .ok (.goto 4, 3) := dk_167 0 4 (dk_at dksX7_wordOf_2 0 rfl rfl)
theorem dX7_wordOf_51 : decode cX7_wordOf 51 = .ok (.iconst 0, 1) := dk_3 (dk_at dksX7_wordOf_2 3 rfl rfl)
theorem dX7_wordOf_52 : decode cX7_wordOf 52 = .ok (.istore 6, 2) := dk_54 6 (dk_at dksX7_wordOf_2 4 rfl rfl)
theorem dX7_wordOf_54 : decode cX7_wordOf 54 = .ok (.iconst 0, 1) := dk_3 (dk_at dksX7_wordOf_2 6 rfl rfl)
theorem dX7_wordOf_55 : decode cX7_wordOf 55 = .ok (.istore 7, 2) := dk_54 7 (dk_at dksX7_wordOf_2 7 rfl rfl)
theorem dX7_wordOf_57 : decode cX7_wordOf 57 = .ok (.iload 7, 2) := dk_21 7 (dk_at dksX7_wordOf_2 9 rfl rfl)
theorem dX7_wordOf_59 : decode cX7_wordOf 59 = .ok (.iload 5, 2) := dk_21 5 (dk_at dksX7_wordOf_2 11 rfl rfl)
theorem dX7_wordOf_61 : decode cX7_wordOf 61 = .ok (.if_icmp .ge 43, 3) := dk_162 0 43 (dk_at dksX7_wordOf_2 13 rfl rfl)
theorem dX7_wordOf_64 : decode cX7_wordOf 64 = .ok (.iload 6, 2) := dk_21 6 (dk_at dksX7_wordOf_2 16 rfl rfl)
theorem dX7_wordOf_66 : decode cX7_wordOf 66 = .ok (.ifCond .eq 38, 3) := dk_153 0 38 (dk_at dksX7_wordOf_2 18 rfl rfl)
theorem dX7_wordOf_69 : decode cX7_wordOf 69 = .ok (.aload_n 0, 1) := dk_42 (dk_at dksX7_wordOf_2 21 rfl rfl)
theorem dX7_wordOf_70 : decode cX7_wordOf 70 = .ok (.getfield 51, 3) := dk_180 0 51 (dk_at dksX7_wordOf_3 0 rfl rfl)
theorem dX7_wordOf_73 : decode cX7_wordOf 73 = .ok (.iload 4, 2) := dk_21 4 (dk_at dksX7_wordOf_3 3 rfl rfl)
theorem dX7_wordOf_75 : decode cX7_wordOf 75 = .ok (.iload 7, 2) := dk_21 7 (dk_at dksX7_wordOf_3 5 rfl rfl)
theorem dX7_wordOf_77 : decode cX7_wordOf 77 = .ok (.iadd, 1) := dk_96 (dk_at dksX7_wordOf_3 7 rfl rfl)
theorem dX7_wordOf_78 : decode cX7_wordOf 78 = .ok (.baload, 1) := dk_51 (dk_at dksX7_wordOf_3 8 rfl rfl)
theorem dX7_wordOf_79 : decode cX7_wordOf 79 = .ok (.aload_n 0, 1) := dk_42 (dk_at dksX7_wordOf_3 9 rfl rfl)
theorem dX7_wordOf_80 : decode cX7_wordOf 80 = .ok (.getfield 55, 3) := dk_180 0 55 (dk_at dksX7_wordOf_3 10 rfl rfl)
theorem dX7_wordOf_83 : decode cX7_wordOf 83 = .ok (.iload_n 1, 1) := dk_27 (dk_at dksX7_wordOf_3 13 rfl rfl)
theorem dX7_wordOf_84 : decode cX7_wordOf 84 = .ok (.iload 7, 2) := dk_21 7 (dk_at dksX7_wordOf_3 14 rfl rfl)
theorem dX7_wordOf_86 : decode cX7_wordOf 86 = .ok (.iadd, 1) := dk_96 (dk_at dksX7_wordOf_3 16 rfl rfl)
theorem dX7_wordOf_87 : decode cX7_wordOf 87 = .ok (.baload, 1) := dk_51 (dk_at dksX7_wordOf_3 17 rfl rfl)
theorem dX7_wordOf_88 : decode cX7_wordOf 88 = .ok (.if_icmp .ne 7, 3) := dk_160 0 7 (dk_at dksX7_wordOf_3 18 rfl rfl)
theorem dX7_wordOf_91 : decode cX7_wordOf 91 = .ok (.iconst 1, 1) := dk_4 (dk_at dksX7_wordOf_3 21 rfl rfl)
theorem dX7_wordOf_92 : decode cX7_wordOf 92 = .ok (.goto 4, 3) := dk_167 0 4 (dk_at dksX7_wordOf_4 0 rfl rfl)
theorem dX7_wordOf_95 : decode cX7_wordOf 95 = .ok (.iconst 0, 1) := dk_3 (dk_at dksX7_wordOf_4 3 rfl rfl)
theorem dX7_wordOf_96 : decode cX7_wordOf 96 = .ok (.istore 6, 2) := dk_54 6 (dk_at dksX7_wordOf_4 4 rfl rfl)
theorem dX7_wordOf_98 : decode cX7_wordOf 98 = .ok (.iinc 7 1, 3) := dk_132 7 1 (dk_at dksX7_wordOf_4 6 rfl rfl)
theorem dX7_wordOf_101 : decode cX7_wordOf 101 = .ok (.goto (-44), 3) := dk_167 255 212 (dk_at dksX7_wordOf_4 9 rfl rfl)
theorem dX7_wordOf_104 : decode cX7_wordOf 104 = .ok (.iload 6, 2) := dk_21 6 (dk_at dksX7_wordOf_4 12 rfl rfl)
theorem dX7_wordOf_106 : decode cX7_wordOf 106 = .ok (.ifCond .eq 5, 3) := dk_153 0 5 (dk_at dksX7_wordOf_4 14 rfl rfl)
theorem dX7_wordOf_109 : decode cX7_wordOf 109 = .ok (.iload_n 3, 1) := dk_29 (dk_at dksX7_wordOf_4 17 rfl rfl)
theorem dX7_wordOf_110 : decode cX7_wordOf 110 = .ok (.ireturn, 1) := dk_172 (dk_at dksX7_wordOf_4 18 rfl rfl)
theorem dX7_wordOf_111 : decode cX7_wordOf 111 = .ok (.iload 4, 2) := dk_21 4 (dk_at dksX7_wordOf_4 19 rfl rfl)
theorem dX7_wordOf_113 : decode cX7_wordOf 113 = .ok (.iload 5, 2) := dk_21 5 (dk_at dksX7_wordOf_4 21 rfl rfl)
theorem dX7_wordOf_115 : decode cX7_wordOf 115 = .ok (.iconst 1, 1) := dk_4 (dk_at dksX7_wordOf_4 23 rfl rfl)
theorem dX7_wordOf_116 : decode cX7_wordOf 116 = .ok (.iadd, 1) := dk_96 (dk_at dksX7_wordOf_5 0 rfl rfl)
theorem dX7_wordOf_117 : decode cX7_wordOf 117 = .ok (.iadd, 1) := dk_96 (dk_at dksX7_wordOf_5 1 rfl rfl)
theorem dX7_wordOf_118 : decode cX7_wordOf 118 = .ok (.istore 4, 2) := dk_54 4 (dk_at dksX7_wordOf_5 2 rfl rfl)
theorem dX7_wordOf_120 : decode cX7_wordOf 120 = .ok (.iinc 3 1, 3) := dk_132 3 1 (dk_at dksX7_wordOf_5 4 rfl rfl)
theorem dX7_wordOf_123 : decode cX7_wordOf 123 = .ok (.goto (-118), 3) := dk_167 255 138 (dk_at dksX7_wordOf_5 7 rfl rfl)
theorem dX7_wordOf_126 : decode cX7_wordOf 126 = .ok (.iconst 0, 1) := dk_3 (dk_at dksX7_wordOf_5 10 rfl rfl)
theorem dX7_wordOf_127 : decode cX7_wordOf 127 = .ok (.ireturn, 1) := dk_172 (dk_at dksX7_wordOf_5 11 rfl rfl)
abbrev cX7_faults : ByteArray := prog_32_method_34_code
def yX7_faults : MethodName := ⟨RX7, "faults", "()V"⟩
def dkwX7_faults_0 : List UInt8 := [42, 182, 0, 204, 153, 0, 16, 42, 42, 180, 0, 70, 42, 180, 0, 208, 46, 181, 0, 201, 177]
abbrev dktX7_faults_0 : List UInt8 := dkwX7_faults_0 ++ []
theorem dksX7_faults_0 : cX7_faults.data.toList.drop 0 = dktX7_faults_0 := by decide +kernel
theorem dX7_faults_0 : decode cX7_faults 0 = .ok (.aload_n 0, 1) := dk_42 (dk_at dksX7_faults_0 0 rfl rfl)
theorem dX7_faults_1 : decode cX7_faults 1 = .ok (.invokevirtual 204, 3) := dk_182 0 204 (dk_at dksX7_faults_0 1 rfl rfl)
theorem dX7_faults_4 : decode cX7_faults 4 = .ok (.ifCond .eq 16, 3) := dk_153 0 16 (dk_at dksX7_faults_0 4 rfl rfl)
theorem dX7_faults_7 : decode cX7_faults 7 = .ok (.aload_n 0, 1) := dk_42 (dk_at dksX7_faults_0 7 rfl rfl)
theorem dX7_faults_8 : decode cX7_faults 8 = .ok (.aload_n 0, 1) := dk_42 (dk_at dksX7_faults_0 8 rfl rfl)
theorem dX7_faults_9 : decode cX7_faults 9 = .ok (.getfield 70, 3) := dk_180 0 70 (dk_at dksX7_faults_0 9 rfl rfl)
theorem dX7_faults_12 : decode cX7_faults 12 = .ok (.aload_n 0, 1) := dk_42 (dk_at dksX7_faults_0 12 rfl rfl)
theorem dX7_faults_13 : decode cX7_faults 13 = .ok (.getfield 208, 3) := dk_180 0 208 (dk_at dksX7_faults_0 13 rfl rfl)
theorem dX7_faults_16 : decode cX7_faults 16 = .ok (.iaload, 1) := dk_46 (dk_at dksX7_faults_0 16 rfl rfl)
theorem dX7_faults_17 : decode cX7_faults 17 = .ok (.putfield 201, 3) := dk_181 0 201 (dk_at dksX7_faults_0 17 rfl rfl)
theorem dX7_faults_20 : decode cX7_faults 20 = .ok (.return_, 1) := dk_177 (dk_at dksX7_faults_0 20 rfl rfl)
abbrev cX7_fine : ByteArray := prog_32_method_33_code
def yX7_fine : MethodName := ⟨RX7, "fine", "()Z"⟩
def dkwX7_fine_0 : List UInt8 := [42, 180, 0, 201, 2, 160, 0, 7, 4, 167, 0, 4, 3, 172]
abbrev dktX7_fine_0 : List UInt8 := dkwX7_fine_0 ++ []
theorem dksX7_fine_0 : cX7_fine.data.toList.drop 0 = dktX7_fine_0 := by decide +kernel
theorem dX7_fine_0 : decode cX7_fine 0 = .ok (.aload_n 0, 1) := dk_42 (dk_at dksX7_fine_0 0 rfl rfl)
theorem dX7_fine_1 : decode cX7_fine 1 = .ok (.getfield 201, 3) := dk_180 0 201 (dk_at dksX7_fine_0 1 rfl rfl)
theorem dX7_fine_4 : decode cX7_fine 4 = .ok (.iconst (-1), 1) := dk_2 (dk_at dksX7_fine_0 4 rfl rfl)
theorem dX7_fine_5 : decode cX7_fine 5 = .ok (.if_icmp .ne 7, 3) := dk_160 0 7 (dk_at dksX7_fine_0 5 rfl rfl)
theorem dX7_fine_8 : decode cX7_fine 8 = .ok (.iconst 1, 1) := dk_4 (dk_at dksX7_fine_0 8 rfl rfl)
theorem dX7_fine_9 : decode cX7_fine 9 = .ok (.goto 4, 3) := dk_167 0 4 (dk_at dksX7_fine_0 9 rfl rfl)
theorem dX7_fine_12 : decode cX7_fine 12 = .ok (.iconst 0, 1) := dk_3 (dk_at dksX7_fine_0 12 rfl rfl)
theorem dX7_fine_13 : decode cX7_fine 13 = .ok (.ireturn, 1) := dk_172 (dk_at dksX7_fine_0 13 rfl rfl)
abbrev cX7_law : ByteArray := prog_32_method_54_code
def yX7_law : MethodName := ⟨RX7, "law", "()I"⟩
def dkwX7_law_3 : List UInt8 := [46, 4, 100, 182, 0, 14, 172]
abbrev dktX7_law_3 : List UInt8 := dkwX7_law_3 ++ []
def dkwX7_law_2 : List UInt8 := [46, 182, 1, 29, 42, 180, 0, 28, 17, 1, 130, 92, 46, 4, 96, 79, 42, 42, 180, 0, 28, 17, 1, 130]
abbrev dktX7_law_2 : List UInt8 := dkwX7_law_2 ++ dktX7_law_3
def dkwX7_law_1 : List UInt8 := [172, 42, 3, 182, 1, 25, 154, 0, 10, 42, 16, 250, 182, 0, 146, 172, 42, 42, 180, 0, 28, 17, 1, 130]
abbrev dktX7_law_1 : List UInt8 := dkwX7_law_1 ++ dktX7_law_2
def dkwX7_law_0 : List UInt8 := [42, 180, 0, 28, 17, 1, 130, 46, 16, 6, 160, 0, 15, 42, 3, 181, 0, 179, 42, 16, 251, 182, 0, 146]
abbrev dktX7_law_0 : List UInt8 := dkwX7_law_0 ++ dktX7_law_1
theorem dksX7_law_0 : cX7_law.data.toList.drop 0 = dktX7_law_0 := by decide +kernel
theorem dksX7_law_1 : cX7_law.data.toList.drop 24 = dktX7_law_1 := dk_seg dksX7_law_0 24 rfl rfl
theorem dksX7_law_2 : cX7_law.data.toList.drop 48 = dktX7_law_2 := dk_seg dksX7_law_1 24 rfl rfl
theorem dksX7_law_3 : cX7_law.data.toList.drop 72 = dktX7_law_3 := dk_seg dksX7_law_2 24 rfl rfl
theorem dX7_law_0 : decode cX7_law 0 = .ok (.aload_n 0, 1) := dk_42 (dk_at dksX7_law_0 0 rfl rfl)
theorem dX7_law_1 : decode cX7_law 1 = .ok (.getfield 28, 3) := dk_180 0 28 (dk_at dksX7_law_0 1 rfl rfl)
theorem dX7_law_4 : decode cX7_law 4 = .ok (.sipush 386, 3) := dk_17 1 130 (dk_at dksX7_law_0 4 rfl rfl)
theorem dX7_law_7 : decode cX7_law 7 = .ok (.iaload, 1) := dk_46 (dk_at dksX7_law_0 7 rfl rfl)
theorem dX7_law_8 : decode cX7_law 8 = .ok (.bipush 6, 2) := dk_16 6 (dk_at dksX7_law_0 8 rfl rfl)
theorem dX7_law_10 : decode cX7_law 10 = .ok (.if_icmp .ne 15, 3) := dk_160 0 15 (dk_at dksX7_law_0 10 rfl rfl)
theorem dX7_law_13 : decode cX7_law 13 = .ok (.aload_n 0, 1) := dk_42 (dk_at dksX7_law_0 13 rfl rfl)
theorem dX7_law_14 : decode cX7_law 14 = .ok (.iconst 0, 1) := dk_3 (dk_at dksX7_law_0 14 rfl rfl)
theorem dX7_law_15 : decode cX7_law 15 = .ok (.putfield 179, 3) := dk_181 0 179 (dk_at dksX7_law_0 15 rfl rfl)
theorem dX7_law_18 : decode cX7_law 18 = .ok (.aload_n 0, 1) := dk_42 (dk_at dksX7_law_0 18 rfl rfl)
theorem dX7_law_19 : decode cX7_law 19 = .ok (.bipush (-5), 2) := dk_16 251 (dk_at dksX7_law_0 19 rfl rfl)
theorem dX7_law_21 : decode cX7_law 21 = .ok (.invokevirtual 146, 3) := dk_182 0 146 (dk_at dksX7_law_0 21 rfl rfl)
theorem dX7_law_24 : decode cX7_law 24 = .ok (.ireturn, 1) := dk_172 (dk_at dksX7_law_1 0 rfl rfl)
theorem dX7_law_25 : decode cX7_law 25 = .ok (.aload_n 0, 1) := dk_42 (dk_at dksX7_law_1 1 rfl rfl)
theorem dX7_law_26 : decode cX7_law 26 = .ok (.iconst 0, 1) := dk_3 (dk_at dksX7_law_1 2 rfl rfl)
theorem dX7_law_27 : decode cX7_law 27 = .ok (.invokevirtual 281, 3) := dk_182 1 25 (dk_at dksX7_law_1 3 rfl rfl)
theorem dX7_law_30 : decode cX7_law 30 = .ok (.ifCond .ne 10, 3) := dk_154 0 10 (dk_at dksX7_law_1 6 rfl rfl)
theorem dX7_law_33 : decode cX7_law 33 = .ok (.aload_n 0, 1) := dk_42 (dk_at dksX7_law_1 9 rfl rfl)
theorem dX7_law_34 : decode cX7_law 34 = .ok (.bipush (-6), 2) := dk_16 250 (dk_at dksX7_law_1 10 rfl rfl)
theorem dX7_law_36 : decode cX7_law 36 = .ok (.invokevirtual 146, 3) := dk_182 0 146 (dk_at dksX7_law_1 12 rfl rfl)
theorem dX7_law_39 : decode cX7_law 39 = .ok (.ireturn, 1) := dk_172 (dk_at dksX7_law_1 15 rfl rfl)
theorem dX7_law_40 : decode cX7_law 40 = .ok (.aload_n 0, 1) := dk_42 (dk_at dksX7_law_1 16 rfl rfl)
theorem dX7_law_41 : decode cX7_law 41 = .ok (.aload_n 0, 1) := dk_42 (dk_at dksX7_law_1 17 rfl rfl)
theorem dX7_law_42 : decode cX7_law 42 = .ok (.getfield 28, 3) := dk_180 0 28 (dk_at dksX7_law_1 18 rfl rfl)
theorem dX7_law_45 : decode cX7_law 45 = .ok (.sipush 386, 3) := dk_17 1 130 (dk_at dksX7_law_1 21 rfl rfl)
theorem dX7_law_48 : decode cX7_law 48 = .ok (.iaload, 1) := dk_46 (dk_at dksX7_law_2 0 rfl rfl)
theorem dX7_law_49 : decode cX7_law 49 = .ok (.invokevirtual 285, 3) := dk_182 1 29 (dk_at dksX7_law_2 1 rfl rfl)
theorem dX7_law_52 : decode cX7_law 52 = .ok (.aload_n 0, 1) := dk_42 (dk_at dksX7_law_2 4 rfl rfl)
theorem dX7_law_53 : decode cX7_law 53 = .ok (.getfield 28, 3) := dk_180 0 28 (dk_at dksX7_law_2 5 rfl rfl)
theorem dX7_law_56 : decode cX7_law 56 = .ok (.sipush 386, 3) := dk_17 1 130 (dk_at dksX7_law_2 8 rfl rfl)
theorem dX7_law_59 : decode cX7_law 59 = .ok (.dup2, 1) := dk_92 (dk_at dksX7_law_2 11 rfl rfl)
theorem dX7_law_60 : decode cX7_law 60 = .ok (.iaload, 1) := dk_46 (dk_at dksX7_law_2 12 rfl rfl)
theorem dX7_law_61 : decode cX7_law 61 = .ok (.iconst 1, 1) := dk_4 (dk_at dksX7_law_2 13 rfl rfl)
theorem dX7_law_62 : decode cX7_law 62 = .ok (.iadd, 1) := dk_96 (dk_at dksX7_law_2 14 rfl rfl)
theorem dX7_law_63 : decode cX7_law 63 = .ok (.iastore, 1) := dk_79 (dk_at dksX7_law_2 15 rfl rfl)
theorem dX7_law_64 : decode cX7_law 64 = .ok (.aload_n 0, 1) := dk_42 (dk_at dksX7_law_2 16 rfl rfl)
theorem dX7_law_65 : decode cX7_law 65 = .ok (.aload_n 0, 1) := dk_42 (dk_at dksX7_law_2 17 rfl rfl)
theorem dX7_law_66 : decode cX7_law 66 = .ok (.getfield 28, 3) := dk_180 0 28 (dk_at dksX7_law_2 18 rfl rfl)
theorem dX7_law_69 : decode cX7_law 69 = .ok (.sipush 386, 3) := dk_17 1 130 (dk_at dksX7_law_2 21 rfl rfl)
theorem dX7_law_72 : decode cX7_law 72 = .ok (.iaload, 1) := dk_46 (dk_at dksX7_law_3 0 rfl rfl)
theorem dX7_law_73 : decode cX7_law 73 = .ok (.iconst 1, 1) := dk_4 (dk_at dksX7_law_3 1 rfl rfl)
theorem dX7_law_74 : decode cX7_law 74 = .ok (.isub, 1) := dk_100 (dk_at dksX7_law_3 2 rfl rfl)
theorem dX7_law_75 : decode cX7_law 75 = .ok (.invokevirtual 14, 3) := dk_182 0 14 (dk_at dksX7_law_3 3 rfl rfl)
theorem dX7_law_78 : decode cX7_law 78 = .ok (.ireturn, 1) := dk_172 (dk_at dksX7_law_3 6 rfl rfl)
abbrev cX7_readsAs : ByteArray := prog_32_method_51_code
def yX7_readsAs : MethodName := ⟨RX7, "readsAs", "(Z)Z"⟩
def dkwX7_readsAs_1 : List UInt8 := [153, 0, 8, 16, 16, 167, 0, 5, 16, 12, 181, 1, 10, 42, 182, 1, 22, 172]
abbrev dktX7_readsAs_1 : List UInt8 := dkwX7_readsAs_1 ++ []
def dkwX7_readsAs_0 : List UInt8 := [42, 27, 181, 0, 237, 42, 27, 153, 0, 8, 16, 12, 167, 0, 5, 16, 7, 181, 1, 7, 42, 27]
abbrev dktX7_readsAs_0 : List UInt8 := dkwX7_readsAs_0 ++ dktX7_readsAs_1
theorem dksX7_readsAs_0 : cX7_readsAs.data.toList.drop 0 = dktX7_readsAs_0 := by decide +kernel
theorem dksX7_readsAs_1 : cX7_readsAs.data.toList.drop 22 = dktX7_readsAs_1 := dk_seg dksX7_readsAs_0 22 rfl rfl
theorem dX7_readsAs_0 : decode cX7_readsAs 0 = .ok (.aload_n 0, 1) := dk_42 (dk_at dksX7_readsAs_0 0 rfl rfl)
theorem dX7_readsAs_1 : decode cX7_readsAs 1 = .ok (.iload_n 1, 1) := dk_27 (dk_at dksX7_readsAs_0 1 rfl rfl)
theorem dX7_readsAs_2 : decode cX7_readsAs 2 = .ok (.putfield 237, 3) := dk_181 0 237 (dk_at dksX7_readsAs_0 2 rfl rfl)
theorem dX7_readsAs_5 : decode cX7_readsAs 5 = .ok (.aload_n 0, 1) := dk_42 (dk_at dksX7_readsAs_0 5 rfl rfl)
theorem dX7_readsAs_6 : decode cX7_readsAs 6 = .ok (.iload_n 1, 1) := dk_27 (dk_at dksX7_readsAs_0 6 rfl rfl)
theorem dX7_readsAs_7 : decode cX7_readsAs 7 = .ok (.ifCond .eq 8, 3) := dk_153 0 8 (dk_at dksX7_readsAs_0 7 rfl rfl)
theorem dX7_readsAs_10 : decode cX7_readsAs 10 = .ok (.bipush 12, 2) := dk_16 12 (dk_at dksX7_readsAs_0 10 rfl rfl)
theorem dX7_readsAs_12 : decode cX7_readsAs 12 = .ok (.goto 5, 3) := dk_167 0 5 (dk_at dksX7_readsAs_0 12 rfl rfl)
theorem dX7_readsAs_15 : decode cX7_readsAs 15 = .ok (.bipush 7, 2) := dk_16 7 (dk_at dksX7_readsAs_0 15 rfl rfl)
theorem dX7_readsAs_17 : decode cX7_readsAs 17 = .ok (.putfield 263, 3) := dk_181 1 7 (dk_at dksX7_readsAs_0 17 rfl rfl)
theorem dX7_readsAs_20 : decode cX7_readsAs 20 = .ok (.aload_n 0, 1) := dk_42 (dk_at dksX7_readsAs_0 20 rfl rfl)
theorem dX7_readsAs_21 : decode cX7_readsAs 21 = .ok (.iload_n 1, 1) := dk_27 (dk_at dksX7_readsAs_0 21 rfl rfl)
theorem dX7_readsAs_22 : decode cX7_readsAs 22 = .ok (.ifCond .eq 8, 3) := dk_153 0 8 (dk_at dksX7_readsAs_1 0 rfl rfl)
theorem dX7_readsAs_25 : decode cX7_readsAs 25 = .ok (.bipush 16, 2) := dk_16 16 (dk_at dksX7_readsAs_1 3 rfl rfl)
theorem dX7_readsAs_27 : decode cX7_readsAs 27 = .ok (.goto 5, 3) := dk_167 0 5 (dk_at dksX7_readsAs_1 5 rfl rfl)
theorem dX7_readsAs_30 : decode cX7_readsAs 30 = .ok (.bipush 12, 2) := dk_16 12 (dk_at dksX7_readsAs_1 8 rfl rfl)
theorem dX7_readsAs_32 : decode cX7_readsAs 32 = .ok (.putfield 266, 3) := dk_181 1 10 (dk_at dksX7_readsAs_1 10 rfl rfl)
theorem dX7_readsAs_35 : decode cX7_readsAs 35 = .ok (.aload_n 0, 1) := dk_42 (dk_at dksX7_readsAs_1 13 rfl rfl)
theorem dX7_readsAs_36 : decode cX7_readsAs 36 = .ok (.invokevirtual 278, 3) := dk_182 1 22 (dk_at dksX7_readsAs_1 14 rfl rfl)
theorem dX7_readsAs_39 : decode cX7_readsAs 39 = .ok (.ireturn, 1) := dk_172 (dk_at dksX7_readsAs_1 17 rfl rfl)
abbrev cX7_reads : ByteArray := prog_32_method_50_code
def yX7_reads : MethodName := ⟨RX7, "reads", "()Z"⟩
def dkwX7_reads_4 : List UInt8 := [182, 0, 214, 42, 42, 180, 0, 201, 181, 0, 61, 42, 182, 0, 204, 172]
abbrev dktX7_reads_4 : List UInt8 := dkwX7_reads_4 ++ []
def dkwX7_reads_3 : List UInt8 := [167, 255, 220, 42, 182, 0, 204, 153, 0, 18, 42, 180, 0, 208, 42, 180, 0, 188, 162, 0, 7, 42]
abbrev dktX7_reads_3 : List UInt8 := dkwX7_reads_3 ++ dktX7_reads_4
def dkwX7_reads_2 : List UInt8 := [16, 12, 160, 0, 7, 42, 182, 0, 214, 42, 182, 0, 204, 153, 0, 7, 42, 182, 1, 19, 132, 1, 1]
abbrev dktX7_reads_2 : List UInt8 := dkwX7_reads_2 ++ dktX7_reads_3
def dkwX7_reads_1 : List UInt8 := [2, 181, 0, 201, 42, 182, 1, 19, 4, 60, 42, 16, 59, 184, 0, 253, 182, 0, 211, 153, 0, 30, 27]
abbrev dktX7_reads_1 : List UInt8 := dkwX7_reads_1 ++ dktX7_reads_2
def dkwX7_reads_0 : List UInt8 := [42, 42, 180, 0, 179, 182, 1, 16, 42, 3, 181, 0, 179, 42, 3, 181, 0, 208, 42, 3, 181, 0, 217, 42]
abbrev dktX7_reads_0 : List UInt8 := dkwX7_reads_0 ++ dktX7_reads_1
theorem dksX7_reads_0 : cX7_reads.data.toList.drop 0 = dktX7_reads_0 := by decide +kernel
theorem dksX7_reads_1 : cX7_reads.data.toList.drop 24 = dktX7_reads_1 := dk_seg dksX7_reads_0 24 rfl rfl
theorem dksX7_reads_2 : cX7_reads.data.toList.drop 47 = dktX7_reads_2 := dk_seg dksX7_reads_1 23 rfl rfl
theorem dksX7_reads_3 : cX7_reads.data.toList.drop 70 = dktX7_reads_3 := dk_seg dksX7_reads_2 23 rfl rfl
theorem dksX7_reads_4 : cX7_reads.data.toList.drop 92 = dktX7_reads_4 := dk_seg dksX7_reads_3 22 rfl rfl
theorem dX7_reads_0 : decode cX7_reads 0 = .ok (.aload_n 0, 1) := dk_42 (dk_at dksX7_reads_0 0 rfl rfl)
theorem dX7_reads_1 : decode cX7_reads 1 = .ok (.aload_n 0, 1) := dk_42 (dk_at dksX7_reads_0 1 rfl rfl)
theorem dX7_reads_2 : decode cX7_reads 2 = .ok (.getfield 179, 3) := dk_180 0 179 (dk_at dksX7_reads_0 2 rfl rfl)
theorem dX7_reads_5 : decode cX7_reads 5 = .ok (.invokevirtual 272, 3) := dk_182 1 16 (dk_at dksX7_reads_0 5 rfl rfl)
theorem dX7_reads_8 : decode cX7_reads 8 = .ok (.aload_n 0, 1) := dk_42 (dk_at dksX7_reads_0 8 rfl rfl)
theorem dX7_reads_9 : decode cX7_reads 9 = .ok (.iconst 0, 1) := dk_3 (dk_at dksX7_reads_0 9 rfl rfl)
theorem dX7_reads_10 : decode cX7_reads 10 = .ok (.putfield 179, 3) := dk_181 0 179 (dk_at dksX7_reads_0 10 rfl rfl)
theorem dX7_reads_13 : decode cX7_reads 13 = .ok (.aload_n 0, 1) := dk_42 (dk_at dksX7_reads_0 13 rfl rfl)
theorem dX7_reads_14 : decode cX7_reads 14 = .ok (.iconst 0, 1) := dk_3 (dk_at dksX7_reads_0 14 rfl rfl)
theorem dX7_reads_15 : decode cX7_reads 15 = .ok (.putfield 208, 3) := dk_181 0 208 (dk_at dksX7_reads_0 15 rfl rfl)
theorem dX7_reads_18 : decode cX7_reads 18 = .ok (.aload_n 0, 1) := dk_42 (dk_at dksX7_reads_0 18 rfl rfl)
theorem dX7_reads_19 : decode cX7_reads 19 = .ok (.iconst 0, 1) := dk_3 (dk_at dksX7_reads_0 19 rfl rfl)
theorem dX7_reads_20 : decode cX7_reads 20 = .ok (.putfield 217, 3) := dk_181 0 217 (dk_at dksX7_reads_0 20 rfl rfl)
theorem dX7_reads_23 : decode cX7_reads 23 = .ok (.aload_n 0, 1) := dk_42 (dk_at dksX7_reads_0 23 rfl rfl)
theorem dX7_reads_24 : decode cX7_reads 24 = .ok (.iconst (-1), 1) := dk_2 (dk_at dksX7_reads_1 0 rfl rfl)
theorem dX7_reads_25 : decode cX7_reads 25 = .ok (.putfield 201, 3) := dk_181 0 201 (dk_at dksX7_reads_1 1 rfl rfl)
theorem dX7_reads_28 : decode cX7_reads 28 = .ok (.aload_n 0, 1) := dk_42 (dk_at dksX7_reads_1 4 rfl rfl)
theorem dX7_reads_29 : decode cX7_reads 29 = .ok (.invokevirtual 275, 3) := dk_182 1 19 (dk_at dksX7_reads_1 5 rfl rfl)
theorem dX7_reads_32 : decode cX7_reads 32 = .ok (.iconst 1, 1) := dk_4 (dk_at dksX7_reads_1 8 rfl rfl)
theorem dX7_reads_33 : decode cX7_reads 33 = .ok (.istore_n 1, 1) := dk_60 (dk_at dksX7_reads_1 9 rfl rfl)
theorem dX7_reads_34 : decode cX7_reads 34 = .ok (.aload_n 0, 1) := dk_42 (dk_at dksX7_reads_1 10 rfl rfl)
theorem dX7_reads_35 : decode cX7_reads 35 = .ok (.bipush 59, 2) := dk_16 59 (dk_at dksX7_reads_1 11 rfl rfl)
theorem dX7_reads_37 : decode cX7_reads 37 = .ok (.invokestatic 253, 3) := dk_184 0 253 (dk_at dksX7_reads_1 13 rfl rfl)
theorem dX7_reads_40 : decode cX7_reads 40 = .ok (.invokevirtual 211, 3) := dk_182 0 211 (dk_at dksX7_reads_1 16 rfl rfl)
theorem dX7_reads_43 : decode cX7_reads 43 = .ok (.ifCond .eq 30, 3) := dk_153 0 30 (dk_at dksX7_reads_1 19 rfl rfl)
theorem dX7_reads_46 : decode cX7_reads 46 = .ok (.iload_n 1, 1) := dk_27 (dk_at dksX7_reads_1 22 rfl rfl)
theorem dX7_reads_47 : decode cX7_reads 47 = .ok (.bipush 12, 2) := dk_16 12 (dk_at dksX7_reads_2 0 rfl rfl)
theorem dX7_reads_49 : decode cX7_reads 49 = .ok (.if_icmp .ne 7, 3) := dk_160 0 7 (dk_at dksX7_reads_2 2 rfl rfl)
theorem dX7_reads_52 : decode cX7_reads 52 = .ok (.aload_n 0, 1) := dk_42 (dk_at dksX7_reads_2 5 rfl rfl)
theorem dX7_reads_53 : decode cX7_reads 53 = .ok (.invokevirtual 214, 3) := dk_182 0 214 (dk_at dksX7_reads_2 6 rfl rfl)
theorem dX7_reads_56 : decode cX7_reads 56 = .ok (.aload_n 0, 1) := dk_42 (dk_at dksX7_reads_2 9 rfl rfl)
theorem dX7_reads_57 : decode cX7_reads 57 = .ok (.invokevirtual 204, 3) := dk_182 0 204 (dk_at dksX7_reads_2 10 rfl rfl)
theorem dX7_reads_60 : decode cX7_reads 60 = .ok (.ifCond .eq 7, 3) := dk_153 0 7 (dk_at dksX7_reads_2 13 rfl rfl)
theorem dX7_reads_63 : decode cX7_reads 63 = .ok (.aload_n 0, 1) := dk_42 (dk_at dksX7_reads_2 16 rfl rfl)
theorem dX7_reads_64 : decode cX7_reads 64 = .ok (.invokevirtual 275, 3) := dk_182 1 19 (dk_at dksX7_reads_2 17 rfl rfl)
theorem dX7_reads_67 : decode cX7_reads 67 = .ok (.iinc 1 1, 3) := dk_132 1 1 (dk_at dksX7_reads_2 20 rfl rfl)
theorem dX7_reads_70 : decode cX7_reads 70 = .ok (.goto (-36), 3) := dk_167 255 220 (dk_at dksX7_reads_3 0 rfl rfl)
theorem dX7_reads_73 : decode cX7_reads 73 = .ok (.aload_n 0, 1) := dk_42 (dk_at dksX7_reads_3 3 rfl rfl)
theorem dX7_reads_74 : decode cX7_reads 74 = .ok (.invokevirtual 204, 3) := dk_182 0 204 (dk_at dksX7_reads_3 4 rfl rfl)
theorem dX7_reads_77 : decode cX7_reads 77 = .ok (.ifCond .eq 18, 3) := dk_153 0 18 (dk_at dksX7_reads_3 7 rfl rfl)
theorem dX7_reads_80 : decode cX7_reads 80 = .ok (.aload_n 0, 1) := dk_42 (dk_at dksX7_reads_3 10 rfl rfl)
theorem dX7_reads_81 : decode cX7_reads 81 = .ok (.getfield 208, 3) := dk_180 0 208 (dk_at dksX7_reads_3 11 rfl rfl)
theorem dX7_reads_84 : decode cX7_reads 84 = .ok (.aload_n 0, 1) := dk_42 (dk_at dksX7_reads_3 14 rfl rfl)
theorem dX7_reads_85 : decode cX7_reads 85 = .ok (.getfield 188, 3) := dk_180 0 188 (dk_at dksX7_reads_3 15 rfl rfl)
theorem dX7_reads_88 : decode cX7_reads 88 = .ok (.if_icmp .ge 7, 3) := dk_162 0 7 (dk_at dksX7_reads_3 18 rfl rfl)
theorem dX7_reads_91 : decode cX7_reads 91 = .ok (.aload_n 0, 1) := dk_42 (dk_at dksX7_reads_3 21 rfl rfl)
theorem dX7_reads_92 : decode cX7_reads 92 = .ok (.invokevirtual 214, 3) := dk_182 0 214 (dk_at dksX7_reads_4 0 rfl rfl)
theorem dX7_reads_95 : decode cX7_reads 95 = .ok (.aload_n 0, 1) := dk_42 (dk_at dksX7_reads_4 3 rfl rfl)
theorem dX7_reads_96 : decode cX7_reads 96 = .ok (.aload_n 0, 1) := dk_42 (dk_at dksX7_reads_4 4 rfl rfl)
theorem dX7_reads_97 : decode cX7_reads 97 = .ok (.getfield 201, 3) := dk_180 0 201 (dk_at dksX7_reads_4 5 rfl rfl)
theorem dX7_reads_100 : decode cX7_reads 100 = .ok (.putfield 61, 3) := dk_181 0 61 (dk_at dksX7_reads_4 8 rfl rfl)
theorem dX7_reads_103 : decode cX7_reads 103 = .ok (.aload_n 0, 1) := dk_42 (dk_at dksX7_reads_4 11 rfl rfl)
theorem dX7_reads_104 : decode cX7_reads 104 = .ok (.invokevirtual 204, 3) := dk_182 0 204 (dk_at dksX7_reads_4 12 rfl rfl)
theorem dX7_reads_107 : decode cX7_reads 107 = .ok (.ireturn, 1) := dk_172 (dk_at dksX7_reads_4 15 rfl rfl)
abbrev cX7_readOne : ByteArray := prog_32_method_43_code
def yX7_readOne : MethodName := ⟨RX7, "readOne", "()V"⟩
def dkwX7_readOne_0 : List UInt8 := [42, 180, 0, 237, 153, 0, 10, 42, 182, 0, 241, 167, 0, 7, 42, 182, 0, 244, 177]
abbrev dktX7_readOne_0 : List UInt8 := dkwX7_readOne_0 ++ []
theorem dksX7_readOne_0 : cX7_readOne.data.toList.drop 0 = dktX7_readOne_0 := by decide +kernel
theorem dX7_readOne_0 : decode cX7_readOne 0 = .ok (.aload_n 0, 1) := dk_42 (dk_at dksX7_readOne_0 0 rfl rfl)
theorem dX7_readOne_1 : decode cX7_readOne 1 = .ok (.getfield 237, 3) := dk_180 0 237 (dk_at dksX7_readOne_0 1 rfl rfl)
theorem dX7_readOne_4 : decode cX7_readOne 4 = .ok (.ifCond .eq 10, 3) := dk_153 0 10 (dk_at dksX7_readOne_0 4 rfl rfl)
theorem dX7_readOne_7 : decode cX7_readOne 7 = .ok (.aload_n 0, 1) := dk_42 (dk_at dksX7_readOne_0 7 rfl rfl)
theorem dX7_readOne_8 : decode cX7_readOne 8 = .ok (.invokevirtual 241, 3) := dk_182 0 241 (dk_at dksX7_readOne_0 8 rfl rfl)
theorem dX7_readOne_11 : decode cX7_readOne 11 = .ok (.goto 7, 3) := dk_167 0 7 (dk_at dksX7_readOne_0 11 rfl rfl)
theorem dX7_readOne_14 : decode cX7_readOne 14 = .ok (.aload_n 0, 1) := dk_42 (dk_at dksX7_readOne_0 14 rfl rfl)
theorem dX7_readOne_15 : decode cX7_readOne 15 = .ok (.invokevirtual 244, 3) := dk_182 0 244 (dk_at dksX7_readOne_0 15 rfl rfl)
theorem dX7_readOne_18 : decode cX7_readOne 18 = .ok (.return_, 1) := dk_177 (dk_at dksX7_readOne_0 18 rfl rfl)
abbrev cX7_readOrder : ByteArray := prog_32_method_42_code
def yX7_readOrder : MethodName := ⟨RX7, "readOrder", "()V"⟩
def dkwX7_readOrder_4 : List UInt8 := [182, 0, 227, 177]
abbrev dktX7_readOrder_4 : List UInt8 := dkwX7_readOrder_4 ++ []
def dkwX7_readOrder_3 : List UInt8 := [182, 0, 211, 153, 0, 10, 42, 4, 16, 20, 182, 0, 233, 42, 6, 182, 0, 211, 153, 0, 8, 42, 3]
abbrev dktX7_readOrder_3 : List UInt8 := dkwX7_readOrder_3 ++ dktX7_readOrder_4
def dkwX7_readOrder_2 : List UInt8 := [16, 20, 182, 0, 230, 42, 16, 18, 182, 0, 230, 167, 0, 9, 42, 16, 22, 182, 0, 224, 42, 16, 23]
abbrev dktX7_readOrder_2 : List UInt8 := dkwX7_readOrder_2 ++ dktX7_readOrder_3
def dkwX7_readOrder_1 : List UInt8 := [16, 18, 182, 0, 230, 167, 0, 38, 42, 16, 19, 182, 0, 211, 153, 0, 23, 42, 3, 182, 0, 220, 42]
abbrev dktX7_readOrder_1 : List UInt8 := dkwX7_readOrder_1 ++ dktX7_readOrder_2
def dkwX7_readOrder_0 : List UInt8 := [42, 16, 17, 182, 0, 211, 154, 0, 12, 42, 16, 21, 182, 0, 211, 153, 0, 17, 42, 3, 182, 0, 220, 42]
abbrev dktX7_readOrder_0 : List UInt8 := dkwX7_readOrder_0 ++ dktX7_readOrder_1
theorem dksX7_readOrder_0 : cX7_readOrder.data.toList.drop 0 = dktX7_readOrder_0 := by decide +kernel
theorem dksX7_readOrder_1 : cX7_readOrder.data.toList.drop 24 = dktX7_readOrder_1 := dk_seg dksX7_readOrder_0 24 rfl rfl
theorem dksX7_readOrder_2 : cX7_readOrder.data.toList.drop 47 = dktX7_readOrder_2 := dk_seg dksX7_readOrder_1 23 rfl rfl
theorem dksX7_readOrder_3 : cX7_readOrder.data.toList.drop 70 = dktX7_readOrder_3 := dk_seg dksX7_readOrder_2 23 rfl rfl
theorem dksX7_readOrder_4 : cX7_readOrder.data.toList.drop 93 = dktX7_readOrder_4 := dk_seg dksX7_readOrder_3 23 rfl rfl
theorem dX7_readOrder_0 : decode cX7_readOrder 0 = .ok (.aload_n 0, 1) := dk_42 (dk_at dksX7_readOrder_0 0 rfl rfl)
theorem dX7_readOrder_1 : decode cX7_readOrder 1 = .ok (.bipush 17, 2) := dk_16 17 (dk_at dksX7_readOrder_0 1 rfl rfl)
theorem dX7_readOrder_3 : decode cX7_readOrder 3 = .ok (.invokevirtual 211, 3) := dk_182 0 211 (dk_at dksX7_readOrder_0 3 rfl rfl)
theorem dX7_readOrder_6 : decode cX7_readOrder 6 = .ok (.ifCond .ne 12, 3) := dk_154 0 12 (dk_at dksX7_readOrder_0 6 rfl rfl)
theorem dX7_readOrder_9 : decode cX7_readOrder 9 = .ok (.aload_n 0, 1) := dk_42 (dk_at dksX7_readOrder_0 9 rfl rfl)
theorem dX7_readOrder_10 : decode cX7_readOrder 10 = .ok (.bipush 21, 2) := dk_16 21 (dk_at dksX7_readOrder_0 10 rfl rfl)
theorem dX7_readOrder_12 : decode cX7_readOrder 12 = .ok (.invokevirtual 211, 3) := dk_182 0 211 (dk_at dksX7_readOrder_0 12 rfl rfl)
theorem dX7_readOrder_15 : decode cX7_readOrder 15 = .ok (.ifCond .eq 17, 3) := dk_153 0 17 (dk_at dksX7_readOrder_0 15 rfl rfl)
theorem dX7_readOrder_18 : decode cX7_readOrder 18 = .ok (.aload_n 0, 1) := dk_42 (dk_at dksX7_readOrder_0 18 rfl rfl)
theorem dX7_readOrder_19 : decode cX7_readOrder 19 = .ok (.iconst 0, 1) := dk_3 (dk_at dksX7_readOrder_0 19 rfl rfl)
theorem dX7_readOrder_20 : decode cX7_readOrder 20 = .ok (.invokevirtual 220, 3) := dk_182 0 220 (dk_at dksX7_readOrder_0 20 rfl rfl)
theorem dX7_readOrder_23 : decode cX7_readOrder 23 = .ok (.aload_n 0, 1) := dk_42 (dk_at dksX7_readOrder_0 23 rfl rfl)
theorem dX7_readOrder_24 : decode cX7_readOrder 24 = .ok (.bipush 18, 2) := dk_16 18 (dk_at dksX7_readOrder_1 0 rfl rfl)
theorem dX7_readOrder_26 : decode cX7_readOrder 26 = .ok (.invokevirtual 230, 3) := dk_182 0 230 (dk_at dksX7_readOrder_1 2 rfl rfl)
theorem dX7_readOrder_29 : decode cX7_readOrder 29 = .ok (.goto 38, 3) := dk_167 0 38 (dk_at dksX7_readOrder_1 5 rfl rfl)
theorem dX7_readOrder_32 : decode cX7_readOrder 32 = .ok (.aload_n 0, 1) := dk_42 (dk_at dksX7_readOrder_1 8 rfl rfl)
theorem dX7_readOrder_33 : decode cX7_readOrder 33 = .ok (.bipush 19, 2) := dk_16 19 (dk_at dksX7_readOrder_1 9 rfl rfl)
theorem dX7_readOrder_35 : decode cX7_readOrder 35 = .ok (.invokevirtual 211, 3) := dk_182 0 211 (dk_at dksX7_readOrder_1 11 rfl rfl)
theorem dX7_readOrder_38 : decode cX7_readOrder 38 = .ok (.ifCond .eq 23, 3) := dk_153 0 23 (dk_at dksX7_readOrder_1 14 rfl rfl)
theorem dX7_readOrder_41 : decode cX7_readOrder 41 = .ok (.aload_n 0, 1) := dk_42 (dk_at dksX7_readOrder_1 17 rfl rfl)
theorem dX7_readOrder_42 : decode cX7_readOrder 42 = .ok (.iconst 0, 1) := dk_3 (dk_at dksX7_readOrder_1 18 rfl rfl)
theorem dX7_readOrder_43 : decode cX7_readOrder 43 = .ok (.invokevirtual 220, 3) := dk_182 0 220 (dk_at dksX7_readOrder_1 19 rfl rfl)
theorem dX7_readOrder_46 : decode cX7_readOrder 46 = .ok (.aload_n 0, 1) := dk_42 (dk_at dksX7_readOrder_1 22 rfl rfl)
theorem dX7_readOrder_47 : decode cX7_readOrder 47 = .ok (.bipush 20, 2) := dk_16 20 (dk_at dksX7_readOrder_2 0 rfl rfl)
theorem dX7_readOrder_49 : decode cX7_readOrder 49 = .ok (.invokevirtual 230, 3) := dk_182 0 230 (dk_at dksX7_readOrder_2 2 rfl rfl)
theorem dX7_readOrder_52 : decode cX7_readOrder 52 = .ok (.aload_n 0, 1) := dk_42 (dk_at dksX7_readOrder_2 5 rfl rfl)
theorem dX7_readOrder_53 : decode cX7_readOrder 53 = .ok (.bipush 18, 2) := dk_16 18 (dk_at dksX7_readOrder_2 6 rfl rfl)
theorem dX7_readOrder_55 : decode cX7_readOrder 55 = .ok (.invokevirtual 230, 3) := dk_182 0 230 (dk_at dksX7_readOrder_2 8 rfl rfl)
theorem dX7_readOrder_58 : decode cX7_readOrder 58 = .ok (.goto 9, 3) := dk_167 0 9 (dk_at dksX7_readOrder_2 11 rfl rfl)
theorem dX7_readOrder_61 : decode cX7_readOrder 61 = .ok (.aload_n 0, 1) := dk_42 (dk_at dksX7_readOrder_2 14 rfl rfl)
theorem dX7_readOrder_62 : decode cX7_readOrder 62 = .ok (.bipush 22, 2) := dk_16 22 (dk_at dksX7_readOrder_2 15 rfl rfl)
theorem dX7_readOrder_64 : decode cX7_readOrder 64 = .ok (.invokevirtual 224, 3) := dk_182 0 224 (dk_at dksX7_readOrder_2 17 rfl rfl)
theorem dX7_readOrder_67 : decode cX7_readOrder 67 = .ok (.aload_n 0, 1) := dk_42 (dk_at dksX7_readOrder_2 20 rfl rfl)
theorem dX7_readOrder_68 : decode cX7_readOrder 68 = .ok (.bipush 23, 2) := dk_16 23 (dk_at dksX7_readOrder_2 21 rfl rfl)
theorem dX7_readOrder_70 : decode cX7_readOrder 70 = .ok (.invokevirtual 211, 3) := dk_182 0 211 (dk_at dksX7_readOrder_3 0 rfl rfl)
theorem dX7_readOrder_73 : decode cX7_readOrder 73 = .ok (.ifCond .eq 10, 3) := dk_153 0 10 (dk_at dksX7_readOrder_3 3 rfl rfl)
theorem dX7_readOrder_76 : decode cX7_readOrder 76 = .ok (.aload_n 0, 1) := dk_42 (dk_at dksX7_readOrder_3 6 rfl rfl)
theorem dX7_readOrder_77 : decode cX7_readOrder 77 = .ok (.iconst 1, 1) := dk_4 (dk_at dksX7_readOrder_3 7 rfl rfl)
theorem dX7_readOrder_78 : decode cX7_readOrder 78 = .ok (.bipush 20, 2) := dk_16 20 (dk_at dksX7_readOrder_3 8 rfl rfl)
theorem dX7_readOrder_80 : decode cX7_readOrder 80 = .ok (.invokevirtual 233, 3) := dk_182 0 233 (dk_at dksX7_readOrder_3 10 rfl rfl)
theorem dX7_readOrder_83 : decode cX7_readOrder 83 = .ok (.aload_n 0, 1) := dk_42 (dk_at dksX7_readOrder_3 13 rfl rfl)
theorem dX7_readOrder_84 : decode cX7_readOrder 84 = .ok (.iconst 3, 1) := dk_6 (dk_at dksX7_readOrder_3 14 rfl rfl)
theorem dX7_readOrder_85 : decode cX7_readOrder 85 = .ok (.invokevirtual 211, 3) := dk_182 0 211 (dk_at dksX7_readOrder_3 15 rfl rfl)
theorem dX7_readOrder_88 : decode cX7_readOrder 88 = .ok (.ifCond .eq 8, 3) := dk_153 0 8 (dk_at dksX7_readOrder_3 18 rfl rfl)
theorem dX7_readOrder_91 : decode cX7_readOrder 91 = .ok (.aload_n 0, 1) := dk_42 (dk_at dksX7_readOrder_3 21 rfl rfl)
theorem dX7_readOrder_92 : decode cX7_readOrder 92 = .ok (.iconst 0, 1) := dk_3 (dk_at dksX7_readOrder_3 22 rfl rfl)
theorem dX7_readOrder_93 : decode cX7_readOrder 93 = .ok (.invokevirtual 227, 3) := dk_182 0 227 (dk_at dksX7_readOrder_4 0 rfl rfl)
theorem dX7_readOrder_96 : decode cX7_readOrder 96 = .ok (.return_, 1) := dk_177 (dk_at dksX7_readOrder_4 3 rfl rfl)
abbrev cX7_takes0 : ByteArray := prog_32_method_35_code
def yX7_takes0 : MethodName := ⟨RX7, "takes0", "(I)Z"⟩
def dkwX7_takes0_1 : List UInt8 := [3, 61, 28, 153, 0, 13, 42, 89, 180, 0, 208, 4, 96, 181, 0, 208, 28, 172]
abbrev dktX7_takes0_1 : List UInt8 := dkwX7_takes0_1 ++ []
def dkwX7_takes0_0 : List UInt8 := [42, 182, 0, 204, 153, 0, 20, 42, 180, 0, 64, 42, 180, 0, 208, 46, 27, 160, 0, 7, 4, 167, 0, 4]
abbrev dktX7_takes0_0 : List UInt8 := dkwX7_takes0_0 ++ dktX7_takes0_1
theorem dksX7_takes0_0 : cX7_takes0.data.toList.drop 0 = dktX7_takes0_0 := by decide +kernel
theorem dksX7_takes0_1 : cX7_takes0.data.toList.drop 24 = dktX7_takes0_1 := dk_seg dksX7_takes0_0 24 rfl rfl
theorem dX7_takes0_0 : decode cX7_takes0 0 = .ok (.aload_n 0, 1) := dk_42 (dk_at dksX7_takes0_0 0 rfl rfl)
theorem dX7_takes0_1 : decode cX7_takes0 1 = .ok (.invokevirtual 204, 3) := dk_182 0 204 (dk_at dksX7_takes0_0 1 rfl rfl)
theorem dX7_takes0_4 : decode cX7_takes0 4 = .ok (.ifCond .eq 20, 3) := dk_153 0 20 (dk_at dksX7_takes0_0 4 rfl rfl)
theorem dX7_takes0_7 : decode cX7_takes0 7 = .ok (.aload_n 0, 1) := dk_42 (dk_at dksX7_takes0_0 7 rfl rfl)
theorem dX7_takes0_8 : decode cX7_takes0 8 = .ok (.getfield 64, 3) := dk_180 0 64 (dk_at dksX7_takes0_0 8 rfl rfl)
theorem dX7_takes0_11 : decode cX7_takes0 11 = .ok (.aload_n 0, 1) := dk_42 (dk_at dksX7_takes0_0 11 rfl rfl)
theorem dX7_takes0_12 : decode cX7_takes0 12 = .ok (.getfield 208, 3) := dk_180 0 208 (dk_at dksX7_takes0_0 12 rfl rfl)
theorem dX7_takes0_15 : decode cX7_takes0 15 = .ok (.iaload, 1) := dk_46 (dk_at dksX7_takes0_0 15 rfl rfl)
theorem dX7_takes0_16 : decode cX7_takes0 16 = .ok (.iload_n 1, 1) := dk_27 (dk_at dksX7_takes0_0 16 rfl rfl)
theorem dX7_takes0_17 : decode cX7_takes0 17 = .ok (.if_icmp .ne 7, 3) := dk_160 0 7 (dk_at dksX7_takes0_0 17 rfl rfl)
theorem dX7_takes0_20 : decode cX7_takes0 20 = .ok (.iconst 1, 1) := dk_4 (dk_at dksX7_takes0_0 20 rfl rfl)
theorem dX7_takes0_21 : decode cX7_takes0 21 = .ok (.goto 4, 3) := dk_167 0 4 (dk_at dksX7_takes0_0 21 rfl rfl)
theorem dX7_takes0_24 : decode cX7_takes0 24 = .ok (.iconst 0, 1) := dk_3 (dk_at dksX7_takes0_1 0 rfl rfl)
theorem dX7_takes0_25 : decode cX7_takes0 25 = .ok (.istore_n 2, 1) := dk_61 (dk_at dksX7_takes0_1 1 rfl rfl)
theorem dX7_takes0_26 : decode cX7_takes0 26 = .ok (.iload_n 2, 1) := dk_28 (dk_at dksX7_takes0_1 2 rfl rfl)
theorem dX7_takes0_27 : decode cX7_takes0 27 = .ok (.ifCond .eq 13, 3) := dk_153 0 13 (dk_at dksX7_takes0_1 3 rfl rfl)
theorem dX7_takes0_30 : decode cX7_takes0 30 = .ok (.aload_n 0, 1) := dk_42 (dk_at dksX7_takes0_1 6 rfl rfl)
theorem dX7_takes0_31 : decode cX7_takes0 31 = .ok (.dup, 1) := dk_89 (dk_at dksX7_takes0_1 7 rfl rfl)
theorem dX7_takes0_32 : decode cX7_takes0 32 = .ok (.getfield 208, 3) := dk_180 0 208 (dk_at dksX7_takes0_1 8 rfl rfl)
theorem dX7_takes0_35 : decode cX7_takes0 35 = .ok (.iconst 1, 1) := dk_4 (dk_at dksX7_takes0_1 11 rfl rfl)
theorem dX7_takes0_36 : decode cX7_takes0 36 = .ok (.iadd, 1) := dk_96 (dk_at dksX7_takes0_1 12 rfl rfl)
theorem dX7_takes0_37 : decode cX7_takes0 37 = .ok (.putfield 208, 3) := dk_181 0 208 (dk_at dksX7_takes0_1 13 rfl rfl)
theorem dX7_takes0_40 : decode cX7_takes0 40 = .ok (.iload_n 2, 1) := dk_28 (dk_at dksX7_takes0_1 16 rfl rfl)
theorem dX7_takes0_41 : decode cX7_takes0 41 = .ok (.ireturn, 1) := dk_172 (dk_at dksX7_takes0_1 17 rfl rfl)
abbrev cX7_readSum : ByteArray := prog_32_method_47_code
def yX7_readSum : MethodName := ⟨RX7, "readSum", "(I)V"⟩
def dkwX7_readSum_1 : List UInt8 := [182, 0, 211, 153, 0, 11, 42, 27, 182, 1, 1, 167, 255, 227, 177]
abbrev dktX7_readSum_1 : List UInt8 := dkwX7_readSum_1 ++ []
def dkwX7_readSum_0 : List UInt8 := [42, 27, 182, 1, 1, 42, 16, 43, 184, 0, 253, 182, 0, 211, 154, 0, 15, 42, 16, 45, 184, 0, 253]
abbrev dktX7_readSum_0 : List UInt8 := dkwX7_readSum_0 ++ dktX7_readSum_1
theorem dksX7_readSum_0 : cX7_readSum.data.toList.drop 0 = dktX7_readSum_0 := by decide +kernel
theorem dksX7_readSum_1 : cX7_readSum.data.toList.drop 23 = dktX7_readSum_1 := dk_seg dksX7_readSum_0 23 rfl rfl
theorem dX7_readSum_0 : decode cX7_readSum 0 = .ok (.aload_n 0, 1) := dk_42 (dk_at dksX7_readSum_0 0 rfl rfl)
theorem dX7_readSum_1 : decode cX7_readSum 1 = .ok (.iload_n 1, 1) := dk_27 (dk_at dksX7_readSum_0 1 rfl rfl)
theorem dX7_readSum_2 : decode cX7_readSum 2 = .ok (.invokevirtual 257, 3) := dk_182 1 1 (dk_at dksX7_readSum_0 2 rfl rfl)
theorem dX7_readSum_5 : decode cX7_readSum 5 = .ok (.aload_n 0, 1) := dk_42 (dk_at dksX7_readSum_0 5 rfl rfl)
theorem dX7_readSum_6 : decode cX7_readSum 6 = .ok (.bipush 43, 2) := dk_16 43 (dk_at dksX7_readSum_0 6 rfl rfl)
theorem dX7_readSum_8 : decode cX7_readSum 8 = .ok (.invokestatic 253, 3) := dk_184 0 253 (dk_at dksX7_readSum_0 8 rfl rfl)
theorem dX7_readSum_11 : decode cX7_readSum 11 = .ok (.invokevirtual 211, 3) := dk_182 0 211 (dk_at dksX7_readSum_0 11 rfl rfl)
theorem dX7_readSum_14 : decode cX7_readSum 14 = .ok (.ifCond .ne 15, 3) := dk_154 0 15 (dk_at dksX7_readSum_0 14 rfl rfl)
theorem dX7_readSum_17 : decode cX7_readSum 17 = .ok (.aload_n 0, 1) := dk_42 (dk_at dksX7_readSum_0 17 rfl rfl)
theorem dX7_readSum_18 : decode cX7_readSum 18 = .ok (.bipush 45, 2) := dk_16 45 (dk_at dksX7_readSum_0 18 rfl rfl)
theorem dX7_readSum_20 : decode cX7_readSum 20 = .ok (.invokestatic 253, 3) := dk_184 0 253 (dk_at dksX7_readSum_0 20 rfl rfl)
theorem dX7_readSum_23 : decode cX7_readSum 23 = .ok (.invokevirtual 211, 3) := dk_182 0 211 (dk_at dksX7_readSum_1 0 rfl rfl)
theorem dX7_readSum_26 : decode cX7_readSum 26 = .ok (.ifCond .eq 11, 3) := dk_153 0 11 (dk_at dksX7_readSum_1 3 rfl rfl)
theorem dX7_readSum_29 : decode cX7_readSum 29 = .ok (.aload_n 0, 1) := dk_42 (dk_at dksX7_readSum_1 6 rfl rfl)
theorem dX7_readSum_30 : decode cX7_readSum 30 = .ok (.iload_n 1, 1) := dk_27 (dk_at dksX7_readSum_1 7 rfl rfl)
theorem dX7_readSum_31 : decode cX7_readSum 31 = .ok (.invokevirtual 257, 3) := dk_182 1 1 (dk_at dksX7_readSum_1 8 rfl rfl)
theorem dX7_readSum_34 : decode cX7_readSum 34 = .ok (.goto (-29), 3) := dk_167 255 227 (dk_at dksX7_readSum_1 11 rfl rfl)
theorem dX7_readSum_37 : decode cX7_readSum 37 = .ok (.return_, 1) := dk_177 (dk_at dksX7_readSum_1 14 rfl rfl)
abbrev cX7_readTerm : ByteArray := prog_32_method_48_code
def yX7_readTerm : MethodName := ⟨RX7, "readTerm", "(I)V"⟩
def dkwX7_readTerm_2 : List UInt8 := [167, 255, 215, 177]
abbrev dktX7_readTerm_2 : List UInt8 := dkwX7_readTerm_2 ++ []
def dkwX7_readTerm_1 : List UInt8 := [182, 0, 211, 154, 0, 15, 42, 16, 37, 184, 0, 253, 182, 0, 211, 153, 0, 11, 42, 27, 182, 1, 4]
abbrev dktX7_readTerm_1 : List UInt8 := dkwX7_readTerm_1 ++ dktX7_readTerm_2
def dkwX7_readTerm_0 : List UInt8 := [42, 27, 182, 1, 4, 42, 16, 42, 184, 0, 253, 182, 0, 211, 154, 0, 27, 42, 16, 47, 184, 0, 253]
abbrev dktX7_readTerm_0 : List UInt8 := dkwX7_readTerm_0 ++ dktX7_readTerm_1
theorem dksX7_readTerm_0 : cX7_readTerm.data.toList.drop 0 = dktX7_readTerm_0 := by decide +kernel
theorem dksX7_readTerm_1 : cX7_readTerm.data.toList.drop 23 = dktX7_readTerm_1 := dk_seg dksX7_readTerm_0 23 rfl rfl
theorem dksX7_readTerm_2 : cX7_readTerm.data.toList.drop 46 = dktX7_readTerm_2 := dk_seg dksX7_readTerm_1 23 rfl rfl
theorem dX7_readTerm_0 : decode cX7_readTerm 0 = .ok (.aload_n 0, 1) := dk_42 (dk_at dksX7_readTerm_0 0 rfl rfl)
theorem dX7_readTerm_1 : decode cX7_readTerm 1 = .ok (.iload_n 1, 1) := dk_27 (dk_at dksX7_readTerm_0 1 rfl rfl)
theorem dX7_readTerm_2 : decode cX7_readTerm 2 = .ok (.invokevirtual 260, 3) := dk_182 1 4 (dk_at dksX7_readTerm_0 2 rfl rfl)
theorem dX7_readTerm_5 : decode cX7_readTerm 5 = .ok (.aload_n 0, 1) := dk_42 (dk_at dksX7_readTerm_0 5 rfl rfl)
theorem dX7_readTerm_6 : decode cX7_readTerm 6 = .ok (.bipush 42, 2) := dk_16 42 (dk_at dksX7_readTerm_0 6 rfl rfl)
theorem dX7_readTerm_8 : decode cX7_readTerm 8 = .ok (.invokestatic 253, 3) := dk_184 0 253 (dk_at dksX7_readTerm_0 8 rfl rfl)
theorem dX7_readTerm_11 : decode cX7_readTerm 11 = .ok (.invokevirtual 211, 3) := dk_182 0 211 (dk_at dksX7_readTerm_0 11 rfl rfl)
theorem dX7_readTerm_14 : decode cX7_readTerm 14 = .ok (.ifCond .ne 27, 3) := dk_154 0 27 (dk_at dksX7_readTerm_0 14 rfl rfl)
theorem dX7_readTerm_17 : decode cX7_readTerm 17 = .ok (.aload_n 0, 1) := dk_42 (dk_at dksX7_readTerm_0 17 rfl rfl)
theorem dX7_readTerm_18 : decode cX7_readTerm 18 = .ok (.bipush 47, 2) := dk_16 47 (dk_at dksX7_readTerm_0 18 rfl rfl)
theorem dX7_readTerm_20 : decode cX7_readTerm 20 = .ok (.invokestatic 253, 3) := dk_184 0 253 (dk_at dksX7_readTerm_0 20 rfl rfl)
theorem dX7_readTerm_23 : decode cX7_readTerm 23 = .ok (.invokevirtual 211, 3) := dk_182 0 211 (dk_at dksX7_readTerm_1 0 rfl rfl)
theorem dX7_readTerm_26 : decode cX7_readTerm 26 = .ok (.ifCond .ne 15, 3) := dk_154 0 15 (dk_at dksX7_readTerm_1 3 rfl rfl)
theorem dX7_readTerm_29 : decode cX7_readTerm 29 = .ok (.aload_n 0, 1) := dk_42 (dk_at dksX7_readTerm_1 6 rfl rfl)
theorem dX7_readTerm_30 : decode cX7_readTerm 30 = .ok (.bipush 37, 2) := dk_16 37 (dk_at dksX7_readTerm_1 7 rfl rfl)
theorem dX7_readTerm_32 : decode cX7_readTerm 32 = .ok (.invokestatic 253, 3) := dk_184 0 253 (dk_at dksX7_readTerm_1 9 rfl rfl)
theorem dX7_readTerm_35 : decode cX7_readTerm 35 = .ok (.invokevirtual 211, 3) := dk_182 0 211 (dk_at dksX7_readTerm_1 12 rfl rfl)
theorem dX7_readTerm_38 : decode cX7_readTerm 38 = .ok (.ifCond .eq 11, 3) := dk_153 0 11 (dk_at dksX7_readTerm_1 15 rfl rfl)
theorem dX7_readTerm_41 : decode cX7_readTerm 41 = .ok (.aload_n 0, 1) := dk_42 (dk_at dksX7_readTerm_1 18 rfl rfl)
theorem dX7_readTerm_42 : decode cX7_readTerm 42 = .ok (.iload_n 1, 1) := dk_27 (dk_at dksX7_readTerm_1 19 rfl rfl)
theorem dX7_readTerm_43 : decode cX7_readTerm 43 = .ok (.invokevirtual 260, 3) := dk_182 1 4 (dk_at dksX7_readTerm_1 20 rfl rfl)
theorem dX7_readTerm_46 : decode cX7_readTerm 46 = .ok (.goto (-41), 3) := dk_167 255 215 (dk_at dksX7_readTerm_2 0 rfl rfl)
theorem dX7_readTerm_49 : decode cX7_readTerm 49 = .ok (.return_, 1) := dk_177 (dk_at dksX7_readTerm_2 3 rfl rfl)
abbrev cX7_readPart : ByteArray := prog_32_method_49_code
def yX7_readPart : MethodName := ⟨RX7, "readPart", "(I)V"⟩
def dkwX7_readPart_6 : List UInt8 := [42, 182, 0, 214, 177]
abbrev dktX7_readPart_6 : List UInt8 := dkwX7_readPart_6 ++ []
def dkwX7_readPart_5 : List UInt8 := [153, 0, 28, 28, 16, 15, 159, 0, 9, 28, 16, 16, 160, 0, 16, 42, 3, 6, 182, 0, 233, 167, 0, 7]
abbrev dktX7_readPart_5 : List UInt8 := dkwX7_readPart_5 ++ dktX7_readPart_6
def dkwX7_readPart_4 : List UInt8 := [28, 42, 180, 1, 7, 161, 0, 43, 28, 42, 180, 1, 10, 163, 0, 35, 42, 182, 1, 13, 42, 180, 0, 237]
abbrev dktX7_readPart_4 : List UInt8 := dkwX7_readPart_4 ++ dktX7_readPart_5
def dkwX7_readPart_3 : List UInt8 := [167, 0, 76, 28, 16, 50, 160, 0, 18, 42, 180, 0, 67, 42, 180, 0, 208, 46, 17, 3, 232, 164, 0, 19]
abbrev dktX7_readPart_3 : List UInt8 := dkwX7_readPart_3 ++ dktX7_readPart_4
def dkwX7_readPart_2 : List UInt8 := [180, 0, 208, 4, 96, 181, 0, 208, 42, 27, 4, 96, 182, 0, 220, 42, 16, 93, 184, 0, 253, 182, 0, 224]
abbrev dktX7_readPart_2 : List UInt8 := dkwX7_readPart_2 ++ dktX7_readPart_3
def dkwX7_readPart_1 : List UInt8 := [160, 0, 50, 27, 16, 8, 160, 0, 7, 42, 182, 0, 214, 42, 182, 0, 204, 154, 0, 4, 177, 42, 89]
abbrev dktX7_readPart_1 : List UInt8 := dkwX7_readPart_1 ++ dktX7_readPart_2
def dkwX7_readPart_0 : List UInt8 := [42, 182, 0, 204, 154, 0, 4, 177, 42, 180, 0, 64, 42, 180, 0, 208, 46, 61, 28, 16, 91, 184, 0, 253]
abbrev dktX7_readPart_0 : List UInt8 := dkwX7_readPart_0 ++ dktX7_readPart_1
theorem dksX7_readPart_0 : cX7_readPart.data.toList.drop 0 = dktX7_readPart_0 := by decide +kernel
theorem dksX7_readPart_1 : cX7_readPart.data.toList.drop 24 = dktX7_readPart_1 := dk_seg dksX7_readPart_0 24 rfl rfl
theorem dksX7_readPart_2 : cX7_readPart.data.toList.drop 47 = dktX7_readPart_2 := dk_seg dksX7_readPart_1 23 rfl rfl
theorem dksX7_readPart_3 : cX7_readPart.data.toList.drop 71 = dktX7_readPart_3 := dk_seg dksX7_readPart_2 24 rfl rfl
theorem dksX7_readPart_4 : cX7_readPart.data.toList.drop 95 = dktX7_readPart_4 := dk_seg dksX7_readPart_3 24 rfl rfl
theorem dksX7_readPart_5 : cX7_readPart.data.toList.drop 119 = dktX7_readPart_5 := dk_seg dksX7_readPart_4 24 rfl rfl
theorem dksX7_readPart_6 : cX7_readPart.data.toList.drop 143 = dktX7_readPart_6 := dk_seg dksX7_readPart_5 24 rfl rfl
theorem dX7_readPart_0 : decode cX7_readPart 0 = .ok (.aload_n 0, 1) := dk_42 (dk_at dksX7_readPart_0 0 rfl rfl)
theorem dX7_readPart_1 : decode cX7_readPart 1 = .ok (.invokevirtual 204, 3) := dk_182 0 204 (dk_at dksX7_readPart_0 1 rfl rfl)
theorem dX7_readPart_4 : decode cX7_readPart 4 = .ok (.ifCond .ne 4, 3) := dk_154 0 4 (dk_at dksX7_readPart_0 4 rfl rfl)
theorem dX7_readPart_7 : decode cX7_readPart 7 = .ok (.return_, 1) := dk_177 (dk_at dksX7_readPart_0 7 rfl rfl)
theorem dX7_readPart_8 : decode cX7_readPart 8 = .ok (.aload_n 0, 1) := dk_42 (dk_at dksX7_readPart_0 8 rfl rfl)
theorem dX7_readPart_9 : decode cX7_readPart 9 = .ok (.getfield 64, 3) := dk_180 0 64 (dk_at dksX7_readPart_0 9 rfl rfl)
theorem dX7_readPart_12 : decode cX7_readPart 12 = .ok (.aload_n 0, 1) := dk_42 (dk_at dksX7_readPart_0 12 rfl rfl)
theorem dX7_readPart_13 : decode cX7_readPart 13 = .ok (.getfield 208, 3) := dk_180 0 208 (dk_at dksX7_readPart_0 13 rfl rfl)
theorem dX7_readPart_16 : decode cX7_readPart 16 = .ok (.iaload, 1) := dk_46 (dk_at dksX7_readPart_0 16 rfl rfl)
theorem dX7_readPart_17 : decode cX7_readPart 17 = .ok (.istore_n 2, 1) := dk_61 (dk_at dksX7_readPart_0 17 rfl rfl)
theorem dX7_readPart_18 : decode cX7_readPart 18 = .ok (.iload_n 2, 1) := dk_28 (dk_at dksX7_readPart_0 18 rfl rfl)
theorem dX7_readPart_19 : decode cX7_readPart 19 = .ok (.bipush 91, 2) := dk_16 91 (dk_at dksX7_readPart_0 19 rfl rfl)
theorem dX7_readPart_21 : decode cX7_readPart 21 = .ok (.invokestatic 253, 3) := dk_184 0 253 (dk_at dksX7_readPart_0 21 rfl rfl)
theorem dX7_readPart_24 : decode cX7_readPart 24 = .ok (.if_icmp .ne 50, 3) := dk_160 0 50 (dk_at dksX7_readPart_1 0 rfl rfl)
theorem dX7_readPart_27 : decode cX7_readPart 27 = .ok (.iload_n 1, 1) := dk_27 (dk_at dksX7_readPart_1 3 rfl rfl)
theorem dX7_readPart_28 : decode cX7_readPart 28 = .ok (.bipush 8, 2) := dk_16 8 (dk_at dksX7_readPart_1 4 rfl rfl)
theorem dX7_readPart_30 : decode cX7_readPart 30 = .ok (.if_icmp .ne 7, 3) := dk_160 0 7 (dk_at dksX7_readPart_1 6 rfl rfl)
theorem dX7_readPart_33 : decode cX7_readPart 33 = .ok (.aload_n 0, 1) := dk_42 (dk_at dksX7_readPart_1 9 rfl rfl)
theorem dX7_readPart_34 : decode cX7_readPart 34 = .ok (.invokevirtual 214, 3) := dk_182 0 214 (dk_at dksX7_readPart_1 10 rfl rfl)
theorem dX7_readPart_37 : decode cX7_readPart 37 = .ok (.aload_n 0, 1) := dk_42 (dk_at dksX7_readPart_1 13 rfl rfl)
theorem dX7_readPart_38 : decode cX7_readPart 38 = .ok (.invokevirtual 204, 3) := dk_182 0 204 (dk_at dksX7_readPart_1 14 rfl rfl)
theorem dX7_readPart_41 : decode cX7_readPart 41 = .ok (.ifCond .ne 4, 3) := dk_154 0 4 (dk_at dksX7_readPart_1 17 rfl rfl)
theorem dX7_readPart_44 : decode cX7_readPart 44 = .ok (.return_, 1) := dk_177 (dk_at dksX7_readPart_1 20 rfl rfl)
theorem dX7_readPart_45 : decode cX7_readPart 45 = .ok (.aload_n 0, 1) := dk_42 (dk_at dksX7_readPart_1 21 rfl rfl)
theorem dX7_readPart_46 : decode cX7_readPart 46 = .ok (.dup, 1) := dk_89 (dk_at dksX7_readPart_1 22 rfl rfl)
theorem dX7_readPart_47 : decode cX7_readPart 47 = .ok (.getfield 208, 3) := dk_180 0 208 (dk_at dksX7_readPart_2 0 rfl rfl)
theorem dX7_readPart_50 : decode cX7_readPart 50 = .ok (.iconst 1, 1) := dk_4 (dk_at dksX7_readPart_2 3 rfl rfl)
theorem dX7_readPart_51 : decode cX7_readPart 51 = .ok (.iadd, 1) := dk_96 (dk_at dksX7_readPart_2 4 rfl rfl)
theorem dX7_readPart_52 : decode cX7_readPart 52 = .ok (.putfield 208, 3) := dk_181 0 208 (dk_at dksX7_readPart_2 5 rfl rfl)
theorem dX7_readPart_55 : decode cX7_readPart 55 = .ok (.aload_n 0, 1) := dk_42 (dk_at dksX7_readPart_2 8 rfl rfl)
theorem dX7_readPart_56 : decode cX7_readPart 56 = .ok (.iload_n 1, 1) := dk_27 (dk_at dksX7_readPart_2 9 rfl rfl)
theorem dX7_readPart_57 : decode cX7_readPart 57 = .ok (.iconst 1, 1) := dk_4 (dk_at dksX7_readPart_2 10 rfl rfl)
theorem dX7_readPart_58 : decode cX7_readPart 58 = .ok (.iadd, 1) := dk_96 (dk_at dksX7_readPart_2 11 rfl rfl)
theorem dX7_readPart_59 : decode cX7_readPart 59 = .ok (.invokevirtual 220, 3) := dk_182 0 220 (dk_at dksX7_readPart_2 12 rfl rfl)
theorem dX7_readPart_62 : decode cX7_readPart 62 = .ok (.aload_n 0, 1) := dk_42 (dk_at dksX7_readPart_2 15 rfl rfl)
theorem dX7_readPart_63 : decode cX7_readPart 63 = .ok (.bipush 93, 2) := dk_16 93 (dk_at dksX7_readPart_2 16 rfl rfl)
theorem dX7_readPart_65 : decode cX7_readPart 65 = .ok (.invokestatic 253, 3) := dk_184 0 253 (dk_at dksX7_readPart_2 18 rfl rfl)
theorem dX7_readPart_68 : decode cX7_readPart 68 = .ok (.invokevirtual 224, 3) := dk_182 0 224 (dk_at dksX7_readPart_2 21 rfl rfl)
theorem dX7_readPart_71 : decode cX7_readPart 71 = .ok (.goto 76, 3) := dk_167 0 76 (dk_at dksX7_readPart_3 0 rfl rfl)
theorem dX7_readPart_74 : decode cX7_readPart 74 = .ok (.iload_n 2, 1) := dk_28 (dk_at dksX7_readPart_3 3 rfl rfl)
theorem dX7_readPart_75 : decode cX7_readPart 75 = .ok (.bipush 50, 2) := dk_16 50 (dk_at dksX7_readPart_3 4 rfl rfl)
theorem dX7_readPart_77 : decode cX7_readPart 77 = .ok (.if_icmp .ne 18, 3) := dk_160 0 18 (dk_at dksX7_readPart_3 6 rfl rfl)
theorem dX7_readPart_80 : decode cX7_readPart 80 = .ok (.aload_n 0, 1) := dk_42 (dk_at dksX7_readPart_3 9 rfl rfl)
theorem dX7_readPart_81 : decode cX7_readPart 81 = .ok (.getfield 67, 3) := dk_180 0 67 (dk_at dksX7_readPart_3 10 rfl rfl)
theorem dX7_readPart_84 : decode cX7_readPart 84 = .ok (.aload_n 0, 1) := dk_42 (dk_at dksX7_readPart_3 13 rfl rfl)
theorem dX7_readPart_85 : decode cX7_readPart 85 = .ok (.getfield 208, 3) := dk_180 0 208 (dk_at dksX7_readPart_3 14 rfl rfl)
theorem dX7_readPart_88 : decode cX7_readPart 88 = .ok (.iaload, 1) := dk_46 (dk_at dksX7_readPart_3 17 rfl rfl)
theorem dX7_readPart_89 : decode cX7_readPart 89 = .ok (.sipush 1000, 3) := dk_17 3 232 (dk_at dksX7_readPart_3 18 rfl rfl)
theorem dX7_readPart_92 : decode cX7_readPart 92 = .ok (.if_icmp .le 19, 3) := dk_164 0 19 (dk_at dksX7_readPart_3 21 rfl rfl)
theorem dX7_readPart_95 : decode cX7_readPart 95 = .ok (.iload_n 2, 1) := dk_28 (dk_at dksX7_readPart_4 0 rfl rfl)
theorem dX7_readPart_96 : decode cX7_readPart 96 = .ok (.aload_n 0, 1) := dk_42 (dk_at dksX7_readPart_4 1 rfl rfl)
theorem dX7_readPart_97 : decode cX7_readPart 97 = .ok (.getfield 263, 3) := dk_180 1 7 (dk_at dksX7_readPart_4 2 rfl rfl)
theorem dX7_readPart_100 : decode cX7_readPart 100 = .ok (.if_icmp .lt 43, 3) := dk_161 0 43 (dk_at dksX7_readPart_4 5 rfl rfl)
theorem dX7_readPart_103 : decode cX7_readPart 103 = .ok (.iload_n 2, 1) := dk_28 (dk_at dksX7_readPart_4 8 rfl rfl)
theorem dX7_readPart_104 : decode cX7_readPart 104 = .ok (.aload_n 0, 1) := dk_42 (dk_at dksX7_readPart_4 9 rfl rfl)
theorem dX7_readPart_105 : decode cX7_readPart 105 = .ok (.getfield 266, 3) := dk_180 1 10 (dk_at dksX7_readPart_4 10 rfl rfl)
theorem dX7_readPart_108 : decode cX7_readPart 108 = .ok (.if_icmp .gt 35, 3) := dk_163 0 35 (dk_at dksX7_readPart_4 13 rfl rfl)
theorem dX7_readPart_111 : decode cX7_readPart 111 = .ok (.aload_n 0, 1) := dk_42 (dk_at dksX7_readPart_4 16 rfl rfl)
theorem dX7_readPart_112 : decode cX7_readPart 112 = .ok (.invokevirtual 269, 3) := dk_182 1 13 (dk_at dksX7_readPart_4 17 rfl rfl)
theorem dX7_readPart_115 : decode cX7_readPart 115 = .ok (.aload_n 0, 1) := dk_42 (dk_at dksX7_readPart_4 20 rfl rfl)
theorem dX7_readPart_116 : decode cX7_readPart 116 = .ok (.getfield 237, 3) := dk_180 0 237 (dk_at dksX7_readPart_4 21 rfl rfl)
theorem dX7_readPart_119 : decode cX7_readPart 119 = .ok (.ifCond .eq 28, 3) := dk_153 0 28 (dk_at dksX7_readPart_5 0 rfl rfl)
theorem dX7_readPart_122 : decode cX7_readPart 122 = .ok (.iload_n 2, 1) := dk_28 (dk_at dksX7_readPart_5 3 rfl rfl)
theorem dX7_readPart_123 : decode cX7_readPart 123 = .ok (.bipush 15, 2) := dk_16 15 (dk_at dksX7_readPart_5 4 rfl rfl)
theorem dX7_readPart_125 : decode cX7_readPart 125 = .ok (.if_icmp .eq 9, 3) := dk_159 0 9 (dk_at dksX7_readPart_5 6 rfl rfl)
theorem dX7_readPart_128 : decode cX7_readPart 128 = .ok (.iload_n 2, 1) := dk_28 (dk_at dksX7_readPart_5 9 rfl rfl)
theorem dX7_readPart_129 : decode cX7_readPart 129 = .ok (.bipush 16, 2) := dk_16 16 (dk_at dksX7_readPart_5 10 rfl rfl)
theorem dX7_readPart_131 : decode cX7_readPart 131 = .ok (.if_icmp .ne 16, 3) := dk_160 0 16 (dk_at dksX7_readPart_5 12 rfl rfl)
theorem dX7_readPart_134 : decode cX7_readPart 134 = .ok (.aload_n 0, 1) := dk_42 (dk_at dksX7_readPart_5 15 rfl rfl)
theorem dX7_readPart_135 : decode cX7_readPart 135 = .ok (.iconst 0, 1) := dk_3 (dk_at dksX7_readPart_5 16 rfl rfl)
theorem dX7_readPart_136 : decode cX7_readPart 136 = .ok (.iconst 3, 1) := dk_6 (dk_at dksX7_readPart_5 17 rfl rfl)
theorem dX7_readPart_137 : decode cX7_readPart 137 = .ok (.invokevirtual 233, 3) := dk_182 0 233 (dk_at dksX7_readPart_5 18 rfl rfl)
theorem dX7_readPart_140 : decode cX7_readPart 140 = .ok (.goto 7, 3) := dk_167 0 7 (dk_at dksX7_readPart_5 21 rfl rfl)
theorem dX7_readPart_143 : decode cX7_readPart 143 = .ok (.aload_n 0, 1) := dk_42 (dk_at dksX7_readPart_6 0 rfl rfl)
theorem dX7_readPart_144 : decode cX7_readPart 144 = .ok (.invokevirtual 214, 3) := dk_182 0 214 (dk_at dksX7_readPart_6 1 rfl rfl)
theorem dX7_readPart_147 : decode cX7_readPart 147 = .ok (.return_, 1) := dk_177 (dk_at dksX7_readPart_6 4 rfl rfl)
abbrev cX7_must : ByteArray := prog_32_method_36_code
def yX7_must : MethodName := ⟨RX7, "must", "(I)V"⟩
def dkwX7_must_0 : List UInt8 := [42, 27, 182, 0, 211, 154, 0, 7, 42, 182, 0, 214, 177]
abbrev dktX7_must_0 : List UInt8 := dkwX7_must_0 ++ []
theorem dksX7_must_0 : cX7_must.data.toList.drop 0 = dktX7_must_0 := by decide +kernel
theorem dX7_must_0 : decode cX7_must 0 = .ok (.aload_n 0, 1) := dk_42 (dk_at dksX7_must_0 0 rfl rfl)
theorem dX7_must_1 : decode cX7_must 1 = .ok (.iload_n 1, 1) := dk_27 (dk_at dksX7_must_0 1 rfl rfl)
theorem dX7_must_2 : decode cX7_must 2 = .ok (.invokevirtual 211, 3) := dk_182 0 211 (dk_at dksX7_must_0 2 rfl rfl)
theorem dX7_must_5 : decode cX7_must 5 = .ok (.ifCond .ne 7, 3) := dk_154 0 7 (dk_at dksX7_must_0 5 rfl rfl)
theorem dX7_must_8 : decode cX7_must 8 = .ok (.aload_n 0, 1) := dk_42 (dk_at dksX7_must_0 8 rfl rfl)
theorem dX7_must_9 : decode cX7_must 9 = .ok (.invokevirtual 214, 3) := dk_182 0 214 (dk_at dksX7_must_0 9 rfl rfl)
theorem dX7_must_12 : decode cX7_must 12 = .ok (.return_, 1) := dk_177 (dk_at dksX7_must_0 12 rfl rfl)
abbrev cX7_leaf : ByteArray := prog_32_method_37_code
def yX7_leaf : MethodName := ⟨RX7, "leaf", "()V"⟩
def dkwX7_leaf_1 : List UInt8 := [182, 0, 204, 153, 0, 13, 42, 89, 180, 0, 208, 4, 96, 181, 0, 208, 177]
abbrev dktX7_leaf_1 : List UInt8 := dkwX7_leaf_1 ++ []
def dkwX7_leaf_0 : List UInt8 := [42, 180, 0, 217, 16, 50, 160, 0, 7, 42, 182, 0, 214, 42, 89, 180, 0, 217, 4, 96, 181, 0, 217, 42]
abbrev dktX7_leaf_0 : List UInt8 := dkwX7_leaf_0 ++ dktX7_leaf_1
theorem dksX7_leaf_0 : cX7_leaf.data.toList.drop 0 = dktX7_leaf_0 := by decide +kernel
theorem dksX7_leaf_1 : cX7_leaf.data.toList.drop 24 = dktX7_leaf_1 := dk_seg dksX7_leaf_0 24 rfl rfl
theorem dX7_leaf_0 : decode cX7_leaf 0 = .ok (.aload_n 0, 1) := dk_42 (dk_at dksX7_leaf_0 0 rfl rfl)
theorem dX7_leaf_1 : decode cX7_leaf 1 = .ok (.getfield 217, 3) := dk_180 0 217 (dk_at dksX7_leaf_0 1 rfl rfl)
theorem dX7_leaf_4 : decode cX7_leaf 4 = .ok (.bipush 50, 2) := dk_16 50 (dk_at dksX7_leaf_0 4 rfl rfl)
theorem dX7_leaf_6 : decode cX7_leaf 6 = .ok (.if_icmp .ne 7, 3) := dk_160 0 7 (dk_at dksX7_leaf_0 6 rfl rfl)
theorem dX7_leaf_9 : decode cX7_leaf 9 = .ok (.aload_n 0, 1) := dk_42 (dk_at dksX7_leaf_0 9 rfl rfl)
theorem dX7_leaf_10 : decode cX7_leaf 10 = .ok (.invokevirtual 214, 3) := dk_182 0 214 (dk_at dksX7_leaf_0 10 rfl rfl)
theorem dX7_leaf_13 : decode cX7_leaf 13 = .ok (.aload_n 0, 1) := dk_42 (dk_at dksX7_leaf_0 13 rfl rfl)
theorem dX7_leaf_14 : decode cX7_leaf 14 = .ok (.dup, 1) := dk_89 (dk_at dksX7_leaf_0 14 rfl rfl)
theorem dX7_leaf_15 : decode cX7_leaf 15 = .ok (.getfield 217, 3) := dk_180 0 217 (dk_at dksX7_leaf_0 15 rfl rfl)
theorem dX7_leaf_18 : decode cX7_leaf 18 = .ok (.iconst 1, 1) := dk_4 (dk_at dksX7_leaf_0 18 rfl rfl)
theorem dX7_leaf_19 : decode cX7_leaf 19 = .ok (.iadd, 1) := dk_96 (dk_at dksX7_leaf_0 19 rfl rfl)
theorem dX7_leaf_20 : decode cX7_leaf 20 = .ok (.putfield 217, 3) := dk_181 0 217 (dk_at dksX7_leaf_0 20 rfl rfl)
theorem dX7_leaf_23 : decode cX7_leaf 23 = .ok (.aload_n 0, 1) := dk_42 (dk_at dksX7_leaf_0 23 rfl rfl)
theorem dX7_leaf_24 : decode cX7_leaf 24 = .ok (.invokevirtual 204, 3) := dk_182 0 204 (dk_at dksX7_leaf_1 0 rfl rfl)
theorem dX7_leaf_27 : decode cX7_leaf 27 = .ok (.ifCond .eq 13, 3) := dk_153 0 13 (dk_at dksX7_leaf_1 3 rfl rfl)
theorem dX7_leaf_30 : decode cX7_leaf 30 = .ok (.aload_n 0, 1) := dk_42 (dk_at dksX7_leaf_1 6 rfl rfl)
theorem dX7_leaf_31 : decode cX7_leaf 31 = .ok (.dup, 1) := dk_89 (dk_at dksX7_leaf_1 7 rfl rfl)
theorem dX7_leaf_32 : decode cX7_leaf 32 = .ok (.getfield 208, 3) := dk_180 0 208 (dk_at dksX7_leaf_1 8 rfl rfl)
theorem dX7_leaf_35 : decode cX7_leaf 35 = .ok (.iconst 1, 1) := dk_4 (dk_at dksX7_leaf_1 11 rfl rfl)
theorem dX7_leaf_36 : decode cX7_leaf 36 = .ok (.iadd, 1) := dk_96 (dk_at dksX7_leaf_1 12 rfl rfl)
theorem dX7_leaf_37 : decode cX7_leaf 37 = .ok (.putfield 208, 3) := dk_181 0 208 (dk_at dksX7_leaf_1 13 rfl rfl)
theorem dX7_leaf_40 : decode cX7_leaf 40 = .ok (.return_, 1) := dk_177 (dk_at dksX7_leaf_1 16 rfl rfl)
abbrev cX7_mustNumber : ByteArray := prog_32_method_39_code
def yX7_mustNumber : MethodName := ⟨RX7, "mustNumber", "(II)V"⟩
def dkwX7_mustNumber_2 : List UInt8 := [153, 0, 13, 42, 89, 180, 0, 208, 4, 96, 181, 0, 208, 177]
abbrev dktX7_mustNumber_2 : List UInt8 := dkwX7_mustNumber_2 ++ []
def dkwX7_mustNumber_1 : List UInt8 := [180, 0, 67, 42, 180, 0, 208, 46, 27, 28, 184, 0, 18, 154, 0, 7, 42, 182, 0, 214, 42, 182, 0, 204]
abbrev dktX7_mustNumber_1 : List UInt8 := dkwX7_mustNumber_1 ++ dktX7_mustNumber_2
def dkwX7_mustNumber_0 : List UInt8 := [42, 182, 0, 204, 153, 0, 38, 42, 180, 0, 64, 42, 180, 0, 208, 46, 16, 50, 160, 0, 20, 42]
abbrev dktX7_mustNumber_0 : List UInt8 := dkwX7_mustNumber_0 ++ dktX7_mustNumber_1
theorem dksX7_mustNumber_0 : cX7_mustNumber.data.toList.drop 0 = dktX7_mustNumber_0 := by decide +kernel
theorem dksX7_mustNumber_1 : cX7_mustNumber.data.toList.drop 22 = dktX7_mustNumber_1 := dk_seg dksX7_mustNumber_0 22 rfl rfl
theorem dksX7_mustNumber_2 : cX7_mustNumber.data.toList.drop 46 = dktX7_mustNumber_2 := dk_seg dksX7_mustNumber_1 24 rfl rfl
theorem dX7_mustNumber_0 : decode cX7_mustNumber 0 = .ok (.aload_n 0, 1) := dk_42 (dk_at dksX7_mustNumber_0 0 rfl rfl)
theorem dX7_mustNumber_1 : decode cX7_mustNumber 1 = .ok (.invokevirtual 204, 3) := dk_182 0 204 (dk_at dksX7_mustNumber_0 1 rfl rfl)
theorem dX7_mustNumber_4 : decode cX7_mustNumber 4 = .ok (.ifCond .eq 38, 3) := dk_153 0 38 (dk_at dksX7_mustNumber_0 4 rfl rfl)
theorem dX7_mustNumber_7 : decode cX7_mustNumber 7 = .ok (.aload_n 0, 1) := dk_42 (dk_at dksX7_mustNumber_0 7 rfl rfl)
theorem dX7_mustNumber_8 : decode cX7_mustNumber 8 = .ok (.getfield 64, 3) := dk_180 0 64 (dk_at dksX7_mustNumber_0 8 rfl rfl)
theorem dX7_mustNumber_11 : decode cX7_mustNumber 11 = .ok (.aload_n 0, 1) := dk_42 (dk_at dksX7_mustNumber_0 11 rfl rfl)
theorem dX7_mustNumber_12 : decode cX7_mustNumber 12 = .ok (.getfield 208, 3) := dk_180 0 208 (dk_at dksX7_mustNumber_0 12 rfl rfl)
theorem dX7_mustNumber_15 : decode cX7_mustNumber 15 = .ok (.iaload, 1) := dk_46 (dk_at dksX7_mustNumber_0 15 rfl rfl)
theorem dX7_mustNumber_16 : decode cX7_mustNumber 16 = .ok (.bipush 50, 2) := dk_16 50 (dk_at dksX7_mustNumber_0 16 rfl rfl)
theorem dX7_mustNumber_18 : decode cX7_mustNumber 18 = .ok (.if_icmp .ne 20, 3) := dk_160 0 20 (dk_at dksX7_mustNumber_0 18 rfl rfl)
theorem dX7_mustNumber_21 : decode cX7_mustNumber 21 = .ok (.aload_n 0, 1) := dk_42 (dk_at dksX7_mustNumber_0 21 rfl rfl)
theorem dX7_mustNumber_22 : decode cX7_mustNumber 22 = .ok (.getfield 67, 3) := dk_180 0 67 (dk_at dksX7_mustNumber_1 0 rfl rfl)
theorem dX7_mustNumber_25 : decode cX7_mustNumber 25 = .ok (.aload_n 0, 1) := dk_42 (dk_at dksX7_mustNumber_1 3 rfl rfl)
theorem dX7_mustNumber_26 : decode cX7_mustNumber 26 = .ok (.getfield 208, 3) := dk_180 0 208 (dk_at dksX7_mustNumber_1 4 rfl rfl)
theorem dX7_mustNumber_29 : decode cX7_mustNumber 29 = .ok (.iaload, 1) := dk_46 (dk_at dksX7_mustNumber_1 7 rfl rfl)
theorem dX7_mustNumber_30 : decode cX7_mustNumber 30 = .ok (.iload_n 1, 1) := dk_27 (dk_at dksX7_mustNumber_1 8 rfl rfl)
theorem dX7_mustNumber_31 : decode cX7_mustNumber 31 = .ok (.iload_n 2, 1) := dk_28 (dk_at dksX7_mustNumber_1 9 rfl rfl)
theorem dX7_mustNumber_32 : decode cX7_mustNumber 32 = .ok (.invokestatic 18, 3) := dk_184 0 18 (dk_at dksX7_mustNumber_1 10 rfl rfl)
theorem dX7_mustNumber_35 : decode cX7_mustNumber 35 = .ok (.ifCond .ne 7, 3) := dk_154 0 7 (dk_at dksX7_mustNumber_1 13 rfl rfl)
theorem dX7_mustNumber_38 : decode cX7_mustNumber 38 = .ok (.aload_n 0, 1) := dk_42 (dk_at dksX7_mustNumber_1 16 rfl rfl)
theorem dX7_mustNumber_39 : decode cX7_mustNumber 39 = .ok (.invokevirtual 214, 3) := dk_182 0 214 (dk_at dksX7_mustNumber_1 17 rfl rfl)
theorem dX7_mustNumber_42 : decode cX7_mustNumber 42 = .ok (.aload_n 0, 1) := dk_42 (dk_at dksX7_mustNumber_1 20 rfl rfl)
theorem dX7_mustNumber_43 : decode cX7_mustNumber 43 = .ok (.invokevirtual 204, 3) := dk_182 0 204 (dk_at dksX7_mustNumber_1 21 rfl rfl)
theorem dX7_mustNumber_46 : decode cX7_mustNumber 46 = .ok (.ifCond .eq 13, 3) := dk_153 0 13 (dk_at dksX7_mustNumber_2 0 rfl rfl)
theorem dX7_mustNumber_49 : decode cX7_mustNumber 49 = .ok (.aload_n 0, 1) := dk_42 (dk_at dksX7_mustNumber_2 3 rfl rfl)
theorem dX7_mustNumber_50 : decode cX7_mustNumber 50 = .ok (.dup, 1) := dk_89 (dk_at dksX7_mustNumber_2 4 rfl rfl)
theorem dX7_mustNumber_51 : decode cX7_mustNumber 51 = .ok (.getfield 208, 3) := dk_180 0 208 (dk_at dksX7_mustNumber_2 5 rfl rfl)
theorem dX7_mustNumber_54 : decode cX7_mustNumber 54 = .ok (.iconst 1, 1) := dk_4 (dk_at dksX7_mustNumber_2 8 rfl rfl)
theorem dX7_mustNumber_55 : decode cX7_mustNumber 55 = .ok (.iadd, 1) := dk_96 (dk_at dksX7_mustNumber_2 9 rfl rfl)
theorem dX7_mustNumber_56 : decode cX7_mustNumber 56 = .ok (.putfield 208, 3) := dk_181 0 208 (dk_at dksX7_mustNumber_2 10 rfl rfl)
theorem dX7_mustNumber_59 : decode cX7_mustNumber 59 = .ok (.return_, 1) := dk_177 (dk_at dksX7_mustNumber_2 13 rfl rfl)
abbrev cX7_readBehind : ByteArray := prog_32_method_41_code
def yX7_readBehind : MethodName := ⟨RX7, "readBehind", "(I)V"⟩
def dkwX7_readBehind_0 : List UInt8 := [42, 27, 182, 0, 224, 42, 3, 182, 0, 220, 177]
abbrev dktX7_readBehind_0 : List UInt8 := dkwX7_readBehind_0 ++ []
theorem dksX7_readBehind_0 : cX7_readBehind.data.toList.drop 0 = dktX7_readBehind_0 := by decide +kernel
theorem dX7_readBehind_0 : decode cX7_readBehind 0 = .ok (.aload_n 0, 1) := dk_42 (dk_at dksX7_readBehind_0 0 rfl rfl)
theorem dX7_readBehind_1 : decode cX7_readBehind 1 = .ok (.iload_n 1, 1) := dk_27 (dk_at dksX7_readBehind_0 1 rfl rfl)
theorem dX7_readBehind_2 : decode cX7_readBehind 2 = .ok (.invokevirtual 224, 3) := dk_182 0 224 (dk_at dksX7_readBehind_0 2 rfl rfl)
theorem dX7_readBehind_5 : decode cX7_readBehind 5 = .ok (.aload_n 0, 1) := dk_42 (dk_at dksX7_readBehind_0 5 rfl rfl)
theorem dX7_readBehind_6 : decode cX7_readBehind 6 = .ok (.iconst 0, 1) := dk_3 (dk_at dksX7_readBehind_0 6 rfl rfl)
theorem dX7_readBehind_7 : decode cX7_readBehind 7 = .ok (.invokevirtual 220, 3) := dk_182 0 220 (dk_at dksX7_readBehind_0 7 rfl rfl)
theorem dX7_readBehind_10 : decode cX7_readBehind 10 = .ok (.return_, 1) := dk_177 (dk_at dksX7_readBehind_0 10 rfl rfl)
abbrev cX7_readTest : ByteArray := prog_32_method_44_code
def yX7_readTest : MethodName := ⟨RX7, "readTest", "(I)V"⟩
def dkwX7_readTest_0 : List UInt8 := [42, 27, 182, 0, 247, 42, 7, 182, 0, 211, 153, 0, 11, 42, 27, 182, 0, 247, 167, 255, 243, 177]
abbrev dktX7_readTest_0 : List UInt8 := dkwX7_readTest_0 ++ []
theorem dksX7_readTest_0 : cX7_readTest.data.toList.drop 0 = dktX7_readTest_0 := by decide +kernel
theorem dX7_readTest_0 : decode cX7_readTest 0 = .ok (.aload_n 0, 1) := dk_42 (dk_at dksX7_readTest_0 0 rfl rfl)
theorem dX7_readTest_1 : decode cX7_readTest 1 = .ok (.iload_n 1, 1) := dk_27 (dk_at dksX7_readTest_0 1 rfl rfl)
theorem dX7_readTest_2 : decode cX7_readTest 2 = .ok (.invokevirtual 247, 3) := dk_182 0 247 (dk_at dksX7_readTest_0 2 rfl rfl)
theorem dX7_readTest_5 : decode cX7_readTest 5 = .ok (.aload_n 0, 1) := dk_42 (dk_at dksX7_readTest_0 5 rfl rfl)
theorem dX7_readTest_6 : decode cX7_readTest 6 = .ok (.iconst 4, 1) := dk_7 (dk_at dksX7_readTest_0 6 rfl rfl)
theorem dX7_readTest_7 : decode cX7_readTest 7 = .ok (.invokevirtual 211, 3) := dk_182 0 211 (dk_at dksX7_readTest_0 7 rfl rfl)
theorem dX7_readTest_10 : decode cX7_readTest 10 = .ok (.ifCond .eq 11, 3) := dk_153 0 11 (dk_at dksX7_readTest_0 10 rfl rfl)
theorem dX7_readTest_13 : decode cX7_readTest 13 = .ok (.aload_n 0, 1) := dk_42 (dk_at dksX7_readTest_0 13 rfl rfl)
theorem dX7_readTest_14 : decode cX7_readTest 14 = .ok (.iload_n 1, 1) := dk_27 (dk_at dksX7_readTest_0 14 rfl rfl)
theorem dX7_readTest_15 : decode cX7_readTest 15 = .ok (.invokevirtual 247, 3) := dk_182 0 247 (dk_at dksX7_readTest_0 15 rfl rfl)
theorem dX7_readTest_18 : decode cX7_readTest 18 = .ok (.goto (-13), 3) := dk_167 255 243 (dk_at dksX7_readTest_0 18 rfl rfl)
theorem dX7_readTest_21 : decode cX7_readTest 21 = .ok (.return_, 1) := dk_177 (dk_at dksX7_readTest_0 21 rfl rfl)
abbrev cX7_readBoth : ByteArray := prog_32_method_45_code
def yX7_readBoth : MethodName := ⟨RX7, "readBoth", "(I)V"⟩
def dkwX7_readBoth_0 : List UInt8 := [42, 27, 182, 0, 250, 42, 8, 182, 0, 211, 153, 0, 11, 42, 27, 182, 0, 250, 167, 255, 243, 177]
abbrev dktX7_readBoth_0 : List UInt8 := dkwX7_readBoth_0 ++ []
theorem dksX7_readBoth_0 : cX7_readBoth.data.toList.drop 0 = dktX7_readBoth_0 := by decide +kernel
theorem dX7_readBoth_0 : decode cX7_readBoth 0 = .ok (.aload_n 0, 1) := dk_42 (dk_at dksX7_readBoth_0 0 rfl rfl)
theorem dX7_readBoth_1 : decode cX7_readBoth 1 = .ok (.iload_n 1, 1) := dk_27 (dk_at dksX7_readBoth_0 1 rfl rfl)
theorem dX7_readBoth_2 : decode cX7_readBoth 2 = .ok (.invokevirtual 250, 3) := dk_182 0 250 (dk_at dksX7_readBoth_0 2 rfl rfl)
theorem dX7_readBoth_5 : decode cX7_readBoth 5 = .ok (.aload_n 0, 1) := dk_42 (dk_at dksX7_readBoth_0 5 rfl rfl)
theorem dX7_readBoth_6 : decode cX7_readBoth 6 = .ok (.iconst 5, 1) := dk_8 (dk_at dksX7_readBoth_0 6 rfl rfl)
theorem dX7_readBoth_7 : decode cX7_readBoth 7 = .ok (.invokevirtual 211, 3) := dk_182 0 211 (dk_at dksX7_readBoth_0 7 rfl rfl)
theorem dX7_readBoth_10 : decode cX7_readBoth 10 = .ok (.ifCond .eq 11, 3) := dk_153 0 11 (dk_at dksX7_readBoth_0 10 rfl rfl)
theorem dX7_readBoth_13 : decode cX7_readBoth 13 = .ok (.aload_n 0, 1) := dk_42 (dk_at dksX7_readBoth_0 13 rfl rfl)
theorem dX7_readBoth_14 : decode cX7_readBoth 14 = .ok (.iload_n 1, 1) := dk_27 (dk_at dksX7_readBoth_0 14 rfl rfl)
theorem dX7_readBoth_15 : decode cX7_readBoth 15 = .ok (.invokevirtual 250, 3) := dk_182 0 250 (dk_at dksX7_readBoth_0 15 rfl rfl)
theorem dX7_readBoth_18 : decode cX7_readBoth 18 = .ok (.goto (-13), 3) := dk_167 255 243 (dk_at dksX7_readBoth_0 18 rfl rfl)
theorem dX7_readBoth_21 : decode cX7_readBoth 21 = .ok (.return_, 1) := dk_177 (dk_at dksX7_readBoth_0 21 rfl rfl)
abbrev cX7_readPlain : ByteArray := prog_32_method_46_code
def yX7_readPlain : MethodName := ⟨RX7, "readPlain", "(I)V"⟩
def dkwX7_readPlain_5 : List UInt8 := [154, 0, 12, 42, 16, 61, 184, 0, 253, 182, 0, 224, 42, 27, 182, 0, 220, 177]
abbrev dktX7_readPlain_5 : List UInt8 := dkwX7_readPlain_5 ++ []
def dkwX7_readPlain_4 : List UInt8 := [182, 0, 220, 42, 16, 60, 184, 0, 253, 182, 0, 211, 154, 0, 24, 42, 16, 62, 184, 0, 253, 182, 0, 211]
abbrev dktX7_readPlain_4 : List UInt8 := dkwX7_readPlain_4 ++ dktX7_readPlain_5
def dkwX7_readPlain_3 : List UInt8 := [181, 0, 208, 42, 27, 4, 96, 182, 0, 227, 42, 16, 41, 184, 0, 253, 182, 0, 224, 167, 0, 46, 42, 27]
abbrev dktX7_readPlain_3 : List UInt8 := dkwX7_readPlain_3 ++ dktX7_readPlain_4
def dkwX7_readPlain_2 : List UInt8 := [160, 0, 7, 42, 182, 0, 214, 42, 182, 0, 204, 154, 0, 4, 177, 42, 89, 180, 0, 208, 4, 96]
abbrev dktX7_readPlain_2 : List UInt8 := dkwX7_readPlain_2 ++ dktX7_readPlain_3
def dkwX7_readPlain_1 : List UInt8 := [42, 180, 0, 64, 42, 180, 0, 208, 46, 62, 29, 16, 40, 184, 0, 253, 160, 0, 50, 27, 16, 8]
abbrev dktX7_readPlain_1 : List UInt8 := dkwX7_readPlain_1 ++ dktX7_readPlain_2
def dkwX7_readPlain_0 : List UInt8 := [4, 61, 28, 153, 0, 13, 42, 16, 6, 182, 0, 211, 61, 167, 255, 245, 42, 182, 0, 204, 154, 0, 4, 177]
abbrev dktX7_readPlain_0 : List UInt8 := dkwX7_readPlain_0 ++ dktX7_readPlain_1
theorem dksX7_readPlain_0 : cX7_readPlain.data.toList.drop 0 = dktX7_readPlain_0 := by decide +kernel
theorem dksX7_readPlain_1 : cX7_readPlain.data.toList.drop 24 = dktX7_readPlain_1 := dk_seg dksX7_readPlain_0 24 rfl rfl
theorem dksX7_readPlain_2 : cX7_readPlain.data.toList.drop 46 = dktX7_readPlain_2 := dk_seg dksX7_readPlain_1 22 rfl rfl
theorem dksX7_readPlain_3 : cX7_readPlain.data.toList.drop 68 = dktX7_readPlain_3 := dk_seg dksX7_readPlain_2 22 rfl rfl
theorem dksX7_readPlain_4 : cX7_readPlain.data.toList.drop 92 = dktX7_readPlain_4 := dk_seg dksX7_readPlain_3 24 rfl rfl
theorem dksX7_readPlain_5 : cX7_readPlain.data.toList.drop 116 = dktX7_readPlain_5 := dk_seg dksX7_readPlain_4 24 rfl rfl
theorem dX7_readPlain_0 : decode cX7_readPlain 0 = .ok (.iconst 1, 1) := dk_4 (dk_at dksX7_readPlain_0 0 rfl rfl)
theorem dX7_readPlain_1 : decode cX7_readPlain 1 = .ok (.istore_n 2, 1) := dk_61 (dk_at dksX7_readPlain_0 1 rfl rfl)
theorem dX7_readPlain_2 : decode cX7_readPlain 2 = .ok (.iload_n 2, 1) := dk_28 (dk_at dksX7_readPlain_0 2 rfl rfl)
theorem dX7_readPlain_3 : decode cX7_readPlain 3 = .ok (.ifCond .eq 13, 3) := dk_153 0 13 (dk_at dksX7_readPlain_0 3 rfl rfl)
theorem dX7_readPlain_6 : decode cX7_readPlain 6 = .ok (.aload_n 0, 1) := dk_42 (dk_at dksX7_readPlain_0 6 rfl rfl)
theorem dX7_readPlain_7 : decode cX7_readPlain 7 = .ok (.bipush 6, 2) := dk_16 6 (dk_at dksX7_readPlain_0 7 rfl rfl)
theorem dX7_readPlain_9 : decode cX7_readPlain 9 = .ok (.invokevirtual 211, 3) := dk_182 0 211 (dk_at dksX7_readPlain_0 9 rfl rfl)
theorem dX7_readPlain_12 : decode cX7_readPlain 12 = .ok (.istore_n 2, 1) := dk_61 (dk_at dksX7_readPlain_0 12 rfl rfl)
theorem dX7_readPlain_13 : decode cX7_readPlain 13 = .ok (.goto (-11), 3) := dk_167 255 245 (dk_at dksX7_readPlain_0 13 rfl rfl)
theorem dX7_readPlain_16 : decode cX7_readPlain 16 = .ok (.aload_n 0, 1) := dk_42 (dk_at dksX7_readPlain_0 16 rfl rfl)
theorem dX7_readPlain_17 : decode cX7_readPlain 17 = .ok (.invokevirtual 204, 3) := dk_182 0 204 (dk_at dksX7_readPlain_0 17 rfl rfl)
theorem dX7_readPlain_20 : decode cX7_readPlain 20 = .ok (.ifCond .ne 4, 3) := dk_154 0 4 (dk_at dksX7_readPlain_0 20 rfl rfl)
theorem dX7_readPlain_23 : decode cX7_readPlain 23 = .ok (.return_, 1) := dk_177 (dk_at dksX7_readPlain_0 23 rfl rfl)
theorem dX7_readPlain_24 : decode cX7_readPlain 24 = .ok (.aload_n 0, 1) := dk_42 (dk_at dksX7_readPlain_1 0 rfl rfl)
theorem dX7_readPlain_25 : decode cX7_readPlain 25 = .ok (.getfield 64, 3) := dk_180 0 64 (dk_at dksX7_readPlain_1 1 rfl rfl)
theorem dX7_readPlain_28 : decode cX7_readPlain 28 = .ok (.aload_n 0, 1) := dk_42 (dk_at dksX7_readPlain_1 4 rfl rfl)
theorem dX7_readPlain_29 : decode cX7_readPlain 29 = .ok (.getfield 208, 3) := dk_180 0 208 (dk_at dksX7_readPlain_1 5 rfl rfl)
theorem dX7_readPlain_32 : decode cX7_readPlain 32 = .ok (.iaload, 1) := dk_46 (dk_at dksX7_readPlain_1 8 rfl rfl)
theorem dX7_readPlain_33 : decode cX7_readPlain 33 = .ok (.istore_n 3, 1) := dk_62 (dk_at dksX7_readPlain_1 9 rfl rfl)
theorem dX7_readPlain_34 : decode cX7_readPlain 34 = .ok (.iload_n 3, 1) := dk_29 (dk_at dksX7_readPlain_1 10 rfl rfl)
theorem dX7_readPlain_35 : decode cX7_readPlain 35 = .ok (.bipush 40, 2) := dk_16 40 (dk_at dksX7_readPlain_1 11 rfl rfl)
theorem dX7_readPlain_37 : decode cX7_readPlain 37 = .ok (.invokestatic 253, 3) := dk_184 0 253 (dk_at dksX7_readPlain_1 13 rfl rfl)
theorem dX7_readPlain_40 : decode cX7_readPlain 40 = .ok (.if_icmp .ne 50, 3) := dk_160 0 50 (dk_at dksX7_readPlain_1 16 rfl rfl)
theorem dX7_readPlain_43 : decode cX7_readPlain 43 = .ok (.iload_n 1, 1) := dk_27 (dk_at dksX7_readPlain_1 19 rfl rfl)
theorem dX7_readPlain_44 : decode cX7_readPlain 44 = .ok (.bipush 8, 2) := dk_16 8 (dk_at dksX7_readPlain_1 20 rfl rfl)
theorem dX7_readPlain_46 : decode cX7_readPlain 46 = .ok (.if_icmp .ne 7, 3) := dk_160 0 7 (dk_at dksX7_readPlain_2 0 rfl rfl)
theorem dX7_readPlain_49 : decode cX7_readPlain 49 = .ok (.aload_n 0, 1) := dk_42 (dk_at dksX7_readPlain_2 3 rfl rfl)
theorem dX7_readPlain_50 : decode cX7_readPlain 50 = .ok (.invokevirtual 214, 3) := dk_182 0 214 (dk_at dksX7_readPlain_2 4 rfl rfl)
theorem dX7_readPlain_53 : decode cX7_readPlain 53 = .ok (.aload_n 0, 1) := dk_42 (dk_at dksX7_readPlain_2 7 rfl rfl)
theorem dX7_readPlain_54 : decode cX7_readPlain 54 = .ok (.invokevirtual 204, 3) := dk_182 0 204 (dk_at dksX7_readPlain_2 8 rfl rfl)
theorem dX7_readPlain_57 : decode cX7_readPlain 57 = .ok (.ifCond .ne 4, 3) := dk_154 0 4 (dk_at dksX7_readPlain_2 11 rfl rfl)
theorem dX7_readPlain_60 : decode cX7_readPlain 60 = .ok (.return_, 1) := dk_177 (dk_at dksX7_readPlain_2 14 rfl rfl)
theorem dX7_readPlain_61 : decode cX7_readPlain 61 = .ok (.aload_n 0, 1) := dk_42 (dk_at dksX7_readPlain_2 15 rfl rfl)
theorem dX7_readPlain_62 : decode cX7_readPlain 62 = .ok (.dup, 1) := dk_89 (dk_at dksX7_readPlain_2 16 rfl rfl)
theorem dX7_readPlain_63 : decode cX7_readPlain 63 = .ok (.getfield 208, 3) := dk_180 0 208 (dk_at dksX7_readPlain_2 17 rfl rfl)
theorem dX7_readPlain_66 : decode cX7_readPlain 66 = .ok (.iconst 1, 1) := dk_4 (dk_at dksX7_readPlain_2 20 rfl rfl)
theorem dX7_readPlain_67 : decode cX7_readPlain 67 = .ok (.iadd, 1) := dk_96 (dk_at dksX7_readPlain_2 21 rfl rfl)
theorem dX7_readPlain_68 : decode cX7_readPlain 68 = .ok (.putfield 208, 3) := dk_181 0 208 (dk_at dksX7_readPlain_3 0 rfl rfl)
theorem dX7_readPlain_71 : decode cX7_readPlain 71 = .ok (.aload_n 0, 1) := dk_42 (dk_at dksX7_readPlain_3 3 rfl rfl)
theorem dX7_readPlain_72 : decode cX7_readPlain 72 = .ok (.iload_n 1, 1) := dk_27 (dk_at dksX7_readPlain_3 4 rfl rfl)
theorem dX7_readPlain_73 : decode cX7_readPlain 73 = .ok (.iconst 1, 1) := dk_4 (dk_at dksX7_readPlain_3 5 rfl rfl)
theorem dX7_readPlain_74 : decode cX7_readPlain 74 = .ok (.iadd, 1) := dk_96 (dk_at dksX7_readPlain_3 6 rfl rfl)
theorem dX7_readPlain_75 : decode cX7_readPlain 75 = .ok (.invokevirtual 227, 3) := dk_182 0 227 (dk_at dksX7_readPlain_3 7 rfl rfl)
theorem dX7_readPlain_78 : decode cX7_readPlain 78 = .ok (.aload_n 0, 1) := dk_42 (dk_at dksX7_readPlain_3 10 rfl rfl)
theorem dX7_readPlain_79 : decode cX7_readPlain 79 = .ok (.bipush 41, 2) := dk_16 41 (dk_at dksX7_readPlain_3 11 rfl rfl)
theorem dX7_readPlain_81 : decode cX7_readPlain 81 = .ok (.invokestatic 253, 3) := dk_184 0 253 (dk_at dksX7_readPlain_3 13 rfl rfl)
theorem dX7_readPlain_84 : decode cX7_readPlain 84 = .ok (.invokevirtual 224, 3) := dk_182 0 224 (dk_at dksX7_readPlain_3 16 rfl rfl)
theorem dX7_readPlain_87 : decode cX7_readPlain 87 = .ok (.goto 46, 3) := dk_167 0 46 (dk_at dksX7_readPlain_3 19 rfl rfl)
theorem dX7_readPlain_90 : decode cX7_readPlain 90 = .ok (.aload_n 0, 1) := dk_42 (dk_at dksX7_readPlain_3 22 rfl rfl)
theorem dX7_readPlain_91 : decode cX7_readPlain 91 = .ok (.iload_n 1, 1) := dk_27 (dk_at dksX7_readPlain_3 23 rfl rfl)
theorem dX7_readPlain_92 : decode cX7_readPlain 92 = .ok (.invokevirtual 220, 3) := dk_182 0 220 (dk_at dksX7_readPlain_4 0 rfl rfl)
theorem dX7_readPlain_95 : decode cX7_readPlain 95 = .ok (.aload_n 0, 1) := dk_42 (dk_at dksX7_readPlain_4 3 rfl rfl)
theorem dX7_readPlain_96 : decode cX7_readPlain 96 = .ok (.bipush 60, 2) := dk_16 60 (dk_at dksX7_readPlain_4 4 rfl rfl)
theorem dX7_readPlain_98 : decode cX7_readPlain 98 = .ok (.invokestatic 253, 3) := dk_184 0 253 (dk_at dksX7_readPlain_4 6 rfl rfl)
theorem dX7_readPlain_101 : decode cX7_readPlain 101 = .ok (.invokevirtual 211, 3) := dk_182 0 211 (dk_at dksX7_readPlain_4 9 rfl rfl)
theorem dX7_readPlain_104 : decode cX7_readPlain 104 = .ok (.ifCond .ne 24, 3) := dk_154 0 24 (dk_at dksX7_readPlain_4 12 rfl rfl)
theorem dX7_readPlain_107 : decode cX7_readPlain 107 = .ok (.aload_n 0, 1) := dk_42 (dk_at dksX7_readPlain_4 15 rfl rfl)
theorem dX7_readPlain_108 : decode cX7_readPlain 108 = .ok (.bipush 62, 2) := dk_16 62 (dk_at dksX7_readPlain_4 16 rfl rfl)
theorem dX7_readPlain_110 : decode cX7_readPlain 110 = .ok (.invokestatic 253, 3) := dk_184 0 253 (dk_at dksX7_readPlain_4 18 rfl rfl)
theorem dX7_readPlain_113 : decode cX7_readPlain 113 = .ok (.invokevirtual 211, 3) := dk_182 0 211 (dk_at dksX7_readPlain_4 21 rfl rfl)
theorem dX7_readPlain_116 : decode cX7_readPlain 116 = .ok (.ifCond .ne 12, 3) := dk_154 0 12 (dk_at dksX7_readPlain_5 0 rfl rfl)
theorem dX7_readPlain_119 : decode cX7_readPlain 119 = .ok (.aload_n 0, 1) := dk_42 (dk_at dksX7_readPlain_5 3 rfl rfl)
theorem dX7_readPlain_120 : decode cX7_readPlain 120 = .ok (.bipush 61, 2) := dk_16 61 (dk_at dksX7_readPlain_5 4 rfl rfl)
theorem dX7_readPlain_122 : decode cX7_readPlain 122 = .ok (.invokestatic 253, 3) := dk_184 0 253 (dk_at dksX7_readPlain_5 6 rfl rfl)
theorem dX7_readPlain_125 : decode cX7_readPlain 125 = .ok (.invokevirtual 224, 3) := dk_182 0 224 (dk_at dksX7_readPlain_5 9 rfl rfl)
theorem dX7_readPlain_128 : decode cX7_readPlain 128 = .ok (.aload_n 0, 1) := dk_42 (dk_at dksX7_readPlain_5 12 rfl rfl)
theorem dX7_readPlain_129 : decode cX7_readPlain 129 = .ok (.iload_n 1, 1) := dk_27 (dk_at dksX7_readPlain_5 13 rfl rfl)
theorem dX7_readPlain_130 : decode cX7_readPlain 130 = .ok (.invokevirtual 220, 3) := dk_182 0 220 (dk_at dksX7_readPlain_5 14 rfl rfl)
theorem dX7_readPlain_133 : decode cX7_readPlain 133 = .ok (.return_, 1) := dk_177 (dk_at dksX7_readPlain_5 17 rfl rfl)
abbrev cX7_readClause : ByteArray := prog_32_method_40_code
def yX7_readClause : MethodName := ⟨RX7, "readClause", "()V"⟩
def dkwX7_readClause_1 : List UInt8 := [182, 0, 211, 153, 0, 8, 42, 3, 182, 0, 227, 177]
abbrev dktX7_readClause_1 : List UInt8 := dkwX7_readClause_1 ++ []
def dkwX7_readClause_0 : List UInt8 := [42, 4, 182, 0, 211, 153, 0, 11, 42, 3, 182, 0, 220, 167, 0, 8, 42, 5, 182, 0, 224, 42, 6]
abbrev dktX7_readClause_0 : List UInt8 := dkwX7_readClause_0 ++ dktX7_readClause_1
theorem dksX7_readClause_0 : cX7_readClause.data.toList.drop 0 = dktX7_readClause_0 := by decide +kernel
theorem dksX7_readClause_1 : cX7_readClause.data.toList.drop 23 = dktX7_readClause_1 := dk_seg dksX7_readClause_0 23 rfl rfl
theorem dX7_readClause_0 : decode cX7_readClause 0 = .ok (.aload_n 0, 1) := dk_42 (dk_at dksX7_readClause_0 0 rfl rfl)
theorem dX7_readClause_1 : decode cX7_readClause 1 = .ok (.iconst 1, 1) := dk_4 (dk_at dksX7_readClause_0 1 rfl rfl)
theorem dX7_readClause_2 : decode cX7_readClause 2 = .ok (.invokevirtual 211, 3) := dk_182 0 211 (dk_at dksX7_readClause_0 2 rfl rfl)
theorem dX7_readClause_5 : decode cX7_readClause 5 = .ok (.ifCond .eq 11, 3) := dk_153 0 11 (dk_at dksX7_readClause_0 5 rfl rfl)
theorem dX7_readClause_8 : decode cX7_readClause 8 = .ok (.aload_n 0, 1) := dk_42 (dk_at dksX7_readClause_0 8 rfl rfl)
theorem dX7_readClause_9 : decode cX7_readClause 9 = .ok (.iconst 0, 1) := dk_3 (dk_at dksX7_readClause_0 9 rfl rfl)
theorem dX7_readClause_10 : decode cX7_readClause 10 = .ok (.invokevirtual 220, 3) := dk_182 0 220 (dk_at dksX7_readClause_0 10 rfl rfl)
theorem dX7_readClause_13 : decode cX7_readClause 13 = .ok (.goto 8, 3) := dk_167 0 8 (dk_at dksX7_readClause_0 13 rfl rfl)
theorem dX7_readClause_16 : decode cX7_readClause 16 = .ok (.aload_n 0, 1) := dk_42 (dk_at dksX7_readClause_0 16 rfl rfl)
theorem dX7_readClause_17 : decode cX7_readClause 17 = .ok (.iconst 2, 1) := dk_5 (dk_at dksX7_readClause_0 17 rfl rfl)
theorem dX7_readClause_18 : decode cX7_readClause 18 = .ok (.invokevirtual 224, 3) := dk_182 0 224 (dk_at dksX7_readClause_0 18 rfl rfl)
theorem dX7_readClause_21 : decode cX7_readClause 21 = .ok (.aload_n 0, 1) := dk_42 (dk_at dksX7_readClause_0 21 rfl rfl)
theorem dX7_readClause_22 : decode cX7_readClause 22 = .ok (.iconst 3, 1) := dk_6 (dk_at dksX7_readClause_0 22 rfl rfl)
theorem dX7_readClause_23 : decode cX7_readClause 23 = .ok (.invokevirtual 211, 3) := dk_182 0 211 (dk_at dksX7_readClause_1 0 rfl rfl)
theorem dX7_readClause_26 : decode cX7_readClause 26 = .ok (.ifCond .eq 8, 3) := dk_153 0 8 (dk_at dksX7_readClause_1 3 rfl rfl)
theorem dX7_readClause_29 : decode cX7_readClause 29 = .ok (.aload_n 0, 1) := dk_42 (dk_at dksX7_readClause_1 6 rfl rfl)
theorem dX7_readClause_30 : decode cX7_readClause 30 = .ok (.iconst 0, 1) := dk_3 (dk_at dksX7_readClause_1 7 rfl rfl)
theorem dX7_readClause_31 : decode cX7_readClause 31 = .ok (.invokevirtual 227, 3) := dk_182 0 227 (dk_at dksX7_readClause_1 8 rfl rfl)
theorem dX7_readClause_34 : decode cX7_readClause 34 = .ok (.return_, 1) := dk_177 (dk_at dksX7_readClause_1 11 rfl rfl)
abbrev cX7_lays : ByteArray := prog_32_method_52_code
def yX7_lays : MethodName := ⟨RX7, "lays", "(I)V"⟩
def dkwX7_lays_3 : List UInt8 := [167, 255, 201, 177]
abbrev dktX7_lays_3 : List UInt8 := dkwX7_lays_3 ++ []
def dkwX7_lays_2 : List UInt8 := [180, 0, 28, 17, 12, 123, 17, 1, 144, 27, 104, 96, 28, 96, 42, 180, 0, 67, 28, 46, 79, 132, 2, 1]
abbrev dktX7_lays_2 : List UInt8 := dkwX7_lays_2 ++ dktX7_lays_3
def dkwX7_lays_1 : List UInt8 := [42, 180, 0, 28, 17, 1, 139, 17, 1, 144, 27, 104, 96, 28, 96, 42, 180, 0, 64, 28, 46, 79, 42]
abbrev dktX7_lays_1 : List UInt8 := dkwX7_lays_1 ++ dktX7_lays_2
def dkwX7_lays_0 : List UInt8 := [42, 180, 0, 28, 17, 1, 132, 27, 96, 42, 180, 0, 188, 79, 3, 61, 28, 42, 180, 0, 188, 162, 0, 53]
abbrev dktX7_lays_0 : List UInt8 := dkwX7_lays_0 ++ dktX7_lays_1
theorem dksX7_lays_0 : cX7_lays.data.toList.drop 0 = dktX7_lays_0 := by decide +kernel
theorem dksX7_lays_1 : cX7_lays.data.toList.drop 24 = dktX7_lays_1 := dk_seg dksX7_lays_0 24 rfl rfl
theorem dksX7_lays_2 : cX7_lays.data.toList.drop 47 = dktX7_lays_2 := dk_seg dksX7_lays_1 23 rfl rfl
theorem dksX7_lays_3 : cX7_lays.data.toList.drop 71 = dktX7_lays_3 := dk_seg dksX7_lays_2 24 rfl rfl
theorem dX7_lays_0 : decode cX7_lays 0 = .ok (.aload_n 0, 1) := dk_42 (dk_at dksX7_lays_0 0 rfl rfl)
theorem dX7_lays_1 : decode cX7_lays 1 = .ok (.getfield 28, 3) := dk_180 0 28 (dk_at dksX7_lays_0 1 rfl rfl)
theorem dX7_lays_4 : decode cX7_lays 4 = .ok (.sipush 388, 3) := dk_17 1 132 (dk_at dksX7_lays_0 4 rfl rfl)
theorem dX7_lays_7 : decode cX7_lays 7 = .ok (.iload_n 1, 1) := dk_27 (dk_at dksX7_lays_0 7 rfl rfl)
theorem dX7_lays_8 : decode cX7_lays 8 = .ok (.iadd, 1) := dk_96 (dk_at dksX7_lays_0 8 rfl rfl)
theorem dX7_lays_9 : decode cX7_lays 9 = .ok (.aload_n 0, 1) := dk_42 (dk_at dksX7_lays_0 9 rfl rfl)
theorem dX7_lays_10 : decode cX7_lays 10 = .ok (.getfield 188, 3) := dk_180 0 188 (dk_at dksX7_lays_0 10 rfl rfl)
theorem dX7_lays_13 : decode cX7_lays 13 = .ok (.iastore, 1) := dk_79 (dk_at dksX7_lays_0 13 rfl rfl)
theorem dX7_lays_14 : decode cX7_lays 14 = .ok (.iconst 0, 1) := dk_3 (dk_at dksX7_lays_0 14 rfl rfl)
theorem dX7_lays_15 : decode cX7_lays 15 = .ok (.istore_n 2, 1) := dk_61 (dk_at dksX7_lays_0 15 rfl rfl)
theorem dX7_lays_16 : decode cX7_lays 16 = .ok (.iload_n 2, 1) := dk_28 (dk_at dksX7_lays_0 16 rfl rfl)
theorem dX7_lays_17 : decode cX7_lays 17 = .ok (.aload_n 0, 1) := dk_42 (dk_at dksX7_lays_0 17 rfl rfl)
theorem dX7_lays_18 : decode cX7_lays 18 = .ok (.getfield 188, 3) := dk_180 0 188 (dk_at dksX7_lays_0 18 rfl rfl)
theorem dX7_lays_21 : decode cX7_lays 21 = .ok (.if_icmp .ge 53, 3) := dk_162 0 53 (dk_at dksX7_lays_0 21 rfl rfl)
theorem dX7_lays_24 : decode cX7_lays 24 = .ok (.aload_n 0, 1) := dk_42 (dk_at dksX7_lays_1 0 rfl rfl)
theorem dX7_lays_25 : decode cX7_lays 25 = .ok (.getfield 28, 3) := dk_180 0 28 (dk_at dksX7_lays_1 1 rfl rfl)
theorem dX7_lays_28 : decode cX7_lays 28 = .ok (.sipush 395, 3) := dk_17 1 139 (dk_at dksX7_lays_1 4 rfl rfl)
theorem dX7_lays_31 : decode cX7_lays 31 = .ok (.sipush 400, 3) := dk_17 1 144 (dk_at dksX7_lays_1 7 rfl rfl)
theorem dX7_lays_34 : decode cX7_lays 34 = .ok (.iload_n 1, 1) := dk_27 (dk_at dksX7_lays_1 10 rfl rfl)
theorem dX7_lays_35 : decode cX7_lays 35 = .ok (.imul, 1) := dk_104 (dk_at dksX7_lays_1 11 rfl rfl)
theorem dX7_lays_36 : decode cX7_lays 36 = .ok (.iadd, 1) := dk_96 (dk_at dksX7_lays_1 12 rfl rfl)
theorem dX7_lays_37 : decode cX7_lays 37 = .ok (.iload_n 2, 1) := dk_28 (dk_at dksX7_lays_1 13 rfl rfl)
theorem dX7_lays_38 : decode cX7_lays 38 = .ok (.iadd, 1) := dk_96 (dk_at dksX7_lays_1 14 rfl rfl)
theorem dX7_lays_39 : decode cX7_lays 39 = .ok (.aload_n 0, 1) := dk_42 (dk_at dksX7_lays_1 15 rfl rfl)
theorem dX7_lays_40 : decode cX7_lays 40 = .ok (.getfield 64, 3) := dk_180 0 64 (dk_at dksX7_lays_1 16 rfl rfl)
theorem dX7_lays_43 : decode cX7_lays 43 = .ok (.iload_n 2, 1) := dk_28 (dk_at dksX7_lays_1 19 rfl rfl)
theorem dX7_lays_44 : decode cX7_lays 44 = .ok (.iaload, 1) := dk_46 (dk_at dksX7_lays_1 20 rfl rfl)
theorem dX7_lays_45 : decode cX7_lays 45 = .ok (.iastore, 1) := dk_79 (dk_at dksX7_lays_1 21 rfl rfl)
theorem dX7_lays_46 : decode cX7_lays 46 = .ok (.aload_n 0, 1) := dk_42 (dk_at dksX7_lays_1 22 rfl rfl)
theorem dX7_lays_47 : decode cX7_lays 47 = .ok (.getfield 28, 3) := dk_180 0 28 (dk_at dksX7_lays_2 0 rfl rfl)
theorem dX7_lays_50 : decode cX7_lays 50 = .ok (.sipush 3195, 3) := dk_17 12 123 (dk_at dksX7_lays_2 3 rfl rfl)
theorem dX7_lays_53 : decode cX7_lays 53 = .ok (.sipush 400, 3) := dk_17 1 144 (dk_at dksX7_lays_2 6 rfl rfl)
theorem dX7_lays_56 : decode cX7_lays 56 = .ok (.iload_n 1, 1) := dk_27 (dk_at dksX7_lays_2 9 rfl rfl)
theorem dX7_lays_57 : decode cX7_lays 57 = .ok (.imul, 1) := dk_104 (dk_at dksX7_lays_2 10 rfl rfl)
theorem dX7_lays_58 : decode cX7_lays 58 = .ok (.iadd, 1) := dk_96 (dk_at dksX7_lays_2 11 rfl rfl)
theorem dX7_lays_59 : decode cX7_lays 59 = .ok (.iload_n 2, 1) := dk_28 (dk_at dksX7_lays_2 12 rfl rfl)
theorem dX7_lays_60 : decode cX7_lays 60 = .ok (.iadd, 1) := dk_96 (dk_at dksX7_lays_2 13 rfl rfl)
theorem dX7_lays_61 : decode cX7_lays 61 = .ok (.aload_n 0, 1) := dk_42 (dk_at dksX7_lays_2 14 rfl rfl)
theorem dX7_lays_62 : decode cX7_lays 62 = .ok (.getfield 67, 3) := dk_180 0 67 (dk_at dksX7_lays_2 15 rfl rfl)
theorem dX7_lays_65 : decode cX7_lays 65 = .ok (.iload_n 2, 1) := dk_28 (dk_at dksX7_lays_2 18 rfl rfl)
theorem dX7_lays_66 : decode cX7_lays 66 = .ok (.iaload, 1) := dk_46 (dk_at dksX7_lays_2 19 rfl rfl)
theorem dX7_lays_67 : decode cX7_lays 67 = .ok (.iastore, 1) := dk_79 (dk_at dksX7_lays_2 20 rfl rfl)
theorem dX7_lays_68 : decode cX7_lays 68 = .ok (.iinc 2 1, 3) := dk_132 2 1 (dk_at dksX7_lays_2 21 rfl rfl)
theorem dX7_lays_71 : decode cX7_lays 71 = .ok (.goto (-55), 3) := dk_167 255 201 (dk_at dksX7_lays_3 0 rfl rfl)
theorem dX7_lays_74 : decode cX7_lays 74 = .ok (.return_, 1) := dk_177 (dk_at dksX7_lays_3 3 rfl rfl)
abbrev cX7_fault : ByteArray := prog_32_method_55_code
def yX7_fault : MethodName := ⟨RX7, "fault", "()I"⟩
theorem dX7_fault_0 : decode cX7_fault 0 = .ok (.aload_n 0, 1) := by decide +kernel
theorem dX7_fault_1 : decode cX7_fault 1 = .ok (.getfield 61, 3) := by decide +kernel
theorem dX7_fault_4 : decode cX7_fault 4 = .ok (.ireturn, 1) := by decide +kernel
abbrev cX7_force : ByteArray := prog_32_method_57_code
def yX7_force : MethodName := ⟨RX7, "force", "(I)I"⟩
def dkwX7_force_1 : List UInt8 := [42, 180, 0, 28, 17, 1, 131, 27, 79, 42, 28, 182, 0, 14, 172]
abbrev dktX7_force_1 : List UInt8 := dkwX7_force_1 ++ []
def dkwX7_force_0 : List UInt8 := [42, 27, 182, 1, 32, 154, 0, 10, 42, 16, 254, 182, 0, 146, 172, 42, 180, 0, 28, 17, 1, 131, 46, 61]
abbrev dktX7_force_0 : List UInt8 := dkwX7_force_0 ++ dktX7_force_1
theorem dksX7_force_0 : cX7_force.data.toList.drop 0 = dktX7_force_0 := by decide +kernel
theorem dksX7_force_1 : cX7_force.data.toList.drop 24 = dktX7_force_1 := dk_seg dksX7_force_0 24 rfl rfl
theorem dX7_force_0 : decode cX7_force 0 = .ok (.aload_n 0, 1) := dk_42 (dk_at dksX7_force_0 0 rfl rfl)
theorem dX7_force_1 : decode cX7_force 1 = .ok (.iload_n 1, 1) := dk_27 (dk_at dksX7_force_0 1 rfl rfl)
theorem dX7_force_2 : decode cX7_force 2 = .ok (.invokevirtual 288, 3) := dk_182 1 32 (dk_at dksX7_force_0 2 rfl rfl)
theorem dX7_force_5 : decode cX7_force 5 = .ok (.ifCond .ne 10, 3) := dk_154 0 10 (dk_at dksX7_force_0 5 rfl rfl)
theorem dX7_force_8 : decode cX7_force 8 = .ok (.aload_n 0, 1) := dk_42 (dk_at dksX7_force_0 8 rfl rfl)
theorem dX7_force_9 : decode cX7_force 9 = .ok (.bipush (-2), 2) := dk_16 254 (dk_at dksX7_force_0 9 rfl rfl)
theorem dX7_force_11 : decode cX7_force 11 = .ok (.invokevirtual 146, 3) := dk_182 0 146 (dk_at dksX7_force_0 11 rfl rfl)
theorem dX7_force_14 : decode cX7_force 14 = .ok (.ireturn, 1) := dk_172 (dk_at dksX7_force_0 14 rfl rfl)
theorem dX7_force_15 : decode cX7_force 15 = .ok (.aload_n 0, 1) := dk_42 (dk_at dksX7_force_0 15 rfl rfl)
theorem dX7_force_16 : decode cX7_force 16 = .ok (.getfield 28, 3) := dk_180 0 28 (dk_at dksX7_force_0 16 rfl rfl)
theorem dX7_force_19 : decode cX7_force 19 = .ok (.sipush 387, 3) := dk_17 1 131 (dk_at dksX7_force_0 19 rfl rfl)
theorem dX7_force_22 : decode cX7_force 22 = .ok (.iaload, 1) := dk_46 (dk_at dksX7_force_0 22 rfl rfl)
theorem dX7_force_23 : decode cX7_force 23 = .ok (.istore_n 2, 1) := dk_61 (dk_at dksX7_force_0 23 rfl rfl)
theorem dX7_force_24 : decode cX7_force 24 = .ok (.aload_n 0, 1) := dk_42 (dk_at dksX7_force_1 0 rfl rfl)
theorem dX7_force_25 : decode cX7_force 25 = .ok (.getfield 28, 3) := dk_180 0 28 (dk_at dksX7_force_1 1 rfl rfl)
theorem dX7_force_28 : decode cX7_force 28 = .ok (.sipush 387, 3) := dk_17 1 131 (dk_at dksX7_force_1 4 rfl rfl)
theorem dX7_force_31 : decode cX7_force 31 = .ok (.iload_n 1, 1) := dk_27 (dk_at dksX7_force_1 7 rfl rfl)
theorem dX7_force_32 : decode cX7_force 32 = .ok (.iastore, 1) := dk_79 (dk_at dksX7_force_1 8 rfl rfl)
theorem dX7_force_33 : decode cX7_force 33 = .ok (.aload_n 0, 1) := dk_42 (dk_at dksX7_force_1 9 rfl rfl)
theorem dX7_force_34 : decode cX7_force 34 = .ok (.iload_n 2, 1) := dk_28 (dk_at dksX7_force_1 10 rfl rfl)
theorem dX7_force_35 : decode cX7_force 35 = .ok (.invokevirtual 14, 3) := dk_182 0 14 (dk_at dksX7_force_1 11 rfl rfl)
theorem dX7_force_38 : decode cX7_force 38 = .ok (.ireturn, 1) := dk_172 (dk_at dksX7_force_1 14 rfl rfl)
abbrev cX7_isLaw : ByteArray := prog_32_method_56_code
def yX7_isLaw : MethodName := ⟨RX7, "isLaw", "(I)Z"⟩
def dkwX7_isLaw_0 : List UInt8 := [27, 2, 42, 180, 0, 28, 17, 1, 130, 46, 4, 100, 184, 0, 18, 172]
abbrev dktX7_isLaw_0 : List UInt8 := dkwX7_isLaw_0 ++ []
theorem dksX7_isLaw_0 : cX7_isLaw.data.toList.drop 0 = dktX7_isLaw_0 := by decide +kernel
theorem dX7_isLaw_0 : decode cX7_isLaw 0 = .ok (.iload_n 1, 1) := dk_27 (dk_at dksX7_isLaw_0 0 rfl rfl)
theorem dX7_isLaw_1 : decode cX7_isLaw 1 = .ok (.iconst (-1), 1) := dk_2 (dk_at dksX7_isLaw_0 1 rfl rfl)
theorem dX7_isLaw_2 : decode cX7_isLaw 2 = .ok (.aload_n 0, 1) := dk_42 (dk_at dksX7_isLaw_0 2 rfl rfl)
theorem dX7_isLaw_3 : decode cX7_isLaw 3 = .ok (.getfield 28, 3) := dk_180 0 28 (dk_at dksX7_isLaw_0 3 rfl rfl)
theorem dX7_isLaw_6 : decode cX7_isLaw 6 = .ok (.sipush 386, 3) := dk_17 1 130 (dk_at dksX7_isLaw_0 6 rfl rfl)
theorem dX7_isLaw_9 : decode cX7_isLaw 9 = .ok (.iaload, 1) := dk_46 (dk_at dksX7_isLaw_0 9 rfl rfl)
theorem dX7_isLaw_10 : decode cX7_isLaw 10 = .ok (.iconst 1, 1) := dk_4 (dk_at dksX7_isLaw_0 10 rfl rfl)
theorem dX7_isLaw_11 : decode cX7_isLaw 11 = .ok (.isub, 1) := dk_100 (dk_at dksX7_isLaw_0 11 rfl rfl)
theorem dX7_isLaw_12 : decode cX7_isLaw 12 = .ok (.invokestatic 18, 3) := dk_184 0 18 (dk_at dksX7_isLaw_0 12 rfl rfl)
theorem dX7_isLaw_15 : decode cX7_isLaw 15 = .ok (.ireturn, 1) := dk_172 (dk_at dksX7_isLaw_0 15 rfl rfl)
abbrev cX7_undo : ByteArray := prog_32_method_82_code
def yX7_undo : MethodName := ⟨RX7, "undo", "()I"⟩
def dkwX7_undo_4 : List UInt8 := [167, 255, 227, 42, 42, 180, 0, 76, 27, 17, 1, 113, 96, 46, 182, 0, 14, 172]
abbrev dktX7_undo_4 : List UInt8 := dkwX7_undo_4 ++ []
def dkwX7_undo_3 : List UInt8 := [180, 0, 31, 28, 42, 180, 0, 79, 16, 100, 42, 180, 0, 11, 104, 28, 96, 47, 80, 132, 2, 1]
abbrev dktX7_undo_3 : List UInt8 := dkwX7_undo_3 ++ dktX7_undo_4
def dkwX7_undo_2 : List UInt8 := [180, 0, 76, 27, 28, 96, 46, 79, 132, 2, 1, 167, 255, 232, 3, 61, 28, 16, 100, 162, 0, 29, 42]
abbrev dktX7_undo_2 : List UInt8 := dkwX7_undo_2 ++ dktX7_undo_3
def dkwX7_undo_1 : List UInt8 := [17, 1, 114, 42, 180, 0, 11, 104, 60, 3, 61, 28, 17, 1, 113, 162, 0, 23, 42, 180, 0, 28, 28, 42]
abbrev dktX7_undo_1 : List UInt8 := dkwX7_undo_1 ++ dktX7_undo_2
def dkwX7_undo_0 : List UInt8 := [42, 180, 0, 11, 154, 0, 10, 42, 16, 253, 182, 0, 146, 172, 42, 89, 180, 0, 11, 4, 100, 181, 0, 11]
abbrev dktX7_undo_0 : List UInt8 := dkwX7_undo_0 ++ dktX7_undo_1
theorem dksX7_undo_0 : cX7_undo.data.toList.drop 0 = dktX7_undo_0 := by decide +kernel
theorem dksX7_undo_1 : cX7_undo.data.toList.drop 24 = dktX7_undo_1 := dk_seg dksX7_undo_0 24 rfl rfl
theorem dksX7_undo_2 : cX7_undo.data.toList.drop 48 = dktX7_undo_2 := dk_seg dksX7_undo_1 24 rfl rfl
theorem dksX7_undo_3 : cX7_undo.data.toList.drop 71 = dktX7_undo_3 := dk_seg dksX7_undo_2 23 rfl rfl
theorem dksX7_undo_4 : cX7_undo.data.toList.drop 93 = dktX7_undo_4 := dk_seg dksX7_undo_3 22 rfl rfl
theorem dX7_undo_0 : decode cX7_undo 0 = .ok (.aload_n 0, 1) := dk_42 (dk_at dksX7_undo_0 0 rfl rfl)
theorem dX7_undo_1 : decode cX7_undo 1 = .ok (.getfield 11, 3) := dk_180 0 11 (dk_at dksX7_undo_0 1 rfl rfl)
theorem dX7_undo_4 : decode cX7_undo 4 = .ok (.ifCond .ne 10, 3) := dk_154 0 10 (dk_at dksX7_undo_0 4 rfl rfl)
theorem dX7_undo_7 : decode cX7_undo 7 = .ok (.aload_n 0, 1) := dk_42 (dk_at dksX7_undo_0 7 rfl rfl)
theorem dX7_undo_8 : decode cX7_undo 8 = .ok (.bipush (-3), 2) := dk_16 253 (dk_at dksX7_undo_0 8 rfl rfl)
theorem dX7_undo_10 : decode cX7_undo 10 = .ok (.invokevirtual 146, 3) := dk_182 0 146 (dk_at dksX7_undo_0 10 rfl rfl)
theorem dX7_undo_13 : decode cX7_undo 13 = .ok (.ireturn, 1) := dk_172 (dk_at dksX7_undo_0 13 rfl rfl)
theorem dX7_undo_14 : decode cX7_undo 14 = .ok (.aload_n 0, 1) := dk_42 (dk_at dksX7_undo_0 14 rfl rfl)
theorem dX7_undo_15 : decode cX7_undo 15 = .ok (.dup, 1) := dk_89 (dk_at dksX7_undo_0 15 rfl rfl)
theorem dX7_undo_16 : decode cX7_undo 16 = .ok (.getfield 11, 3) := dk_180 0 11 (dk_at dksX7_undo_0 16 rfl rfl)
theorem dX7_undo_19 : decode cX7_undo 19 = .ok (.iconst 1, 1) := dk_4 (dk_at dksX7_undo_0 19 rfl rfl)
theorem dX7_undo_20 : decode cX7_undo 20 = .ok (.isub, 1) := dk_100 (dk_at dksX7_undo_0 20 rfl rfl)
theorem dX7_undo_21 : decode cX7_undo 21 = .ok (.putfield 11, 3) := dk_181 0 11 (dk_at dksX7_undo_0 21 rfl rfl)
theorem dX7_undo_24 : decode cX7_undo 24 = .ok (.sipush 370, 3) := dk_17 1 114 (dk_at dksX7_undo_1 0 rfl rfl)
theorem dX7_undo_27 : decode cX7_undo 27 = .ok (.aload_n 0, 1) := dk_42 (dk_at dksX7_undo_1 3 rfl rfl)
theorem dX7_undo_28 : decode cX7_undo 28 = .ok (.getfield 11, 3) := dk_180 0 11 (dk_at dksX7_undo_1 4 rfl rfl)
theorem dX7_undo_31 : decode cX7_undo 31 = .ok (.imul, 1) := dk_104 (dk_at dksX7_undo_1 7 rfl rfl)
theorem dX7_undo_32 : decode cX7_undo 32 = .ok (.istore_n 1, 1) := dk_60 (dk_at dksX7_undo_1 8 rfl rfl)
theorem dX7_undo_33 : decode cX7_undo 33 = .ok (.iconst 0, 1) := dk_3 (dk_at dksX7_undo_1 9 rfl rfl)
theorem dX7_undo_34 : decode cX7_undo 34 = .ok (.istore_n 2, 1) := dk_61 (dk_at dksX7_undo_1 10 rfl rfl)
theorem dX7_undo_35 : decode cX7_undo 35 = .ok (.iload_n 2, 1) := dk_28 (dk_at dksX7_undo_1 11 rfl rfl)
theorem dX7_undo_36 : decode cX7_undo 36 = .ok (.sipush 369, 3) := dk_17 1 113 (dk_at dksX7_undo_1 12 rfl rfl)
theorem dX7_undo_39 : decode cX7_undo 39 = .ok (.if_icmp .ge 23, 3) := dk_162 0 23 (dk_at dksX7_undo_1 15 rfl rfl)
theorem dX7_undo_42 : decode cX7_undo 42 = .ok (.aload_n 0, 1) := dk_42 (dk_at dksX7_undo_1 18 rfl rfl)
theorem dX7_undo_43 : decode cX7_undo 43 = .ok (.getfield 28, 3) := dk_180 0 28 (dk_at dksX7_undo_1 19 rfl rfl)
theorem dX7_undo_46 : decode cX7_undo 46 = .ok (.iload_n 2, 1) := dk_28 (dk_at dksX7_undo_1 22 rfl rfl)
theorem dX7_undo_47 : decode cX7_undo 47 = .ok (.aload_n 0, 1) := dk_42 (dk_at dksX7_undo_1 23 rfl rfl)
theorem dX7_undo_48 : decode cX7_undo 48 = .ok (.getfield 76, 3) := dk_180 0 76 (dk_at dksX7_undo_2 0 rfl rfl)
theorem dX7_undo_51 : decode cX7_undo 51 = .ok (.iload_n 1, 1) := dk_27 (dk_at dksX7_undo_2 3 rfl rfl)
theorem dX7_undo_52 : decode cX7_undo 52 = .ok (.iload_n 2, 1) := dk_28 (dk_at dksX7_undo_2 4 rfl rfl)
theorem dX7_undo_53 : decode cX7_undo 53 = .ok (.iadd, 1) := dk_96 (dk_at dksX7_undo_2 5 rfl rfl)
theorem dX7_undo_54 : decode cX7_undo 54 = .ok (.iaload, 1) := dk_46 (dk_at dksX7_undo_2 6 rfl rfl)
theorem dX7_undo_55 : decode cX7_undo 55 = .ok (.iastore, 1) := dk_79 (dk_at dksX7_undo_2 7 rfl rfl)
theorem dX7_undo_56 : decode cX7_undo 56 = .ok (.iinc 2 1, 3) := dk_132 2 1 (dk_at dksX7_undo_2 8 rfl rfl)
theorem dX7_undo_59 : decode cX7_undo 59 = .ok (.goto (-24), 3) := dk_167 255 232 (dk_at dksX7_undo_2 11 rfl rfl)
theorem dX7_undo_62 : decode cX7_undo 62 = .ok (.iconst 0, 1) := dk_3 (dk_at dksX7_undo_2 14 rfl rfl)
theorem dX7_undo_63 : decode cX7_undo 63 = .ok (.istore_n 2, 1) := dk_61 (dk_at dksX7_undo_2 15 rfl rfl)
theorem dX7_undo_64 : decode cX7_undo 64 = .ok (.iload_n 2, 1) := dk_28 (dk_at dksX7_undo_2 16 rfl rfl)
theorem dX7_undo_65 : decode cX7_undo 65 = .ok (.bipush 100, 2) := dk_16 100 (dk_at dksX7_undo_2 17 rfl rfl)
theorem dX7_undo_67 : decode cX7_undo 67 = .ok (.if_icmp .ge 29, 3) := dk_162 0 29 (dk_at dksX7_undo_2 19 rfl rfl)
theorem dX7_undo_70 : decode cX7_undo 70 = .ok (.aload_n 0, 1) := dk_42 (dk_at dksX7_undo_2 22 rfl rfl)
theorem dX7_undo_71 : decode cX7_undo 71 = .ok (.getfield 31, 3) := dk_180 0 31 (dk_at dksX7_undo_3 0 rfl rfl)
theorem dX7_undo_74 : decode cX7_undo 74 = .ok (.iload_n 2, 1) := dk_28 (dk_at dksX7_undo_3 3 rfl rfl)
theorem dX7_undo_75 : decode cX7_undo 75 = .ok (.aload_n 0, 1) := dk_42 (dk_at dksX7_undo_3 4 rfl rfl)
theorem dX7_undo_76 : decode cX7_undo 76 = .ok (.getfield 79, 3) := dk_180 0 79 (dk_at dksX7_undo_3 5 rfl rfl)
theorem dX7_undo_79 : decode cX7_undo 79 = .ok (.bipush 100, 2) := dk_16 100 (dk_at dksX7_undo_3 8 rfl rfl)
theorem dX7_undo_81 : decode cX7_undo 81 = .ok (.aload_n 0, 1) := dk_42 (dk_at dksX7_undo_3 10 rfl rfl)
theorem dX7_undo_82 : decode cX7_undo 82 = .ok (.getfield 11, 3) := dk_180 0 11 (dk_at dksX7_undo_3 11 rfl rfl)
theorem dX7_undo_85 : decode cX7_undo 85 = .ok (.imul, 1) := dk_104 (dk_at dksX7_undo_3 14 rfl rfl)
theorem dX7_undo_86 : decode cX7_undo 86 = .ok (.iload_n 2, 1) := dk_28 (dk_at dksX7_undo_3 15 rfl rfl)
theorem dX7_undo_87 : decode cX7_undo 87 = .ok (.iadd, 1) := dk_96 (dk_at dksX7_undo_3 16 rfl rfl)
theorem dX7_undo_88 : decode cX7_undo 88 = .ok (.laload, 1) := dk_47 (dk_at dksX7_undo_3 17 rfl rfl)
theorem dX7_undo_89 : decode cX7_undo 89 = .ok (.lastore, 1) := dk_80 (dk_at dksX7_undo_3 18 rfl rfl)
theorem dX7_undo_90 : decode cX7_undo 90 = .ok (.iinc 2 1, 3) := dk_132 2 1 (dk_at dksX7_undo_3 19 rfl rfl)
theorem dX7_undo_93 : decode cX7_undo 93 = .ok (.goto (-29), 3) := dk_167 255 227 (dk_at dksX7_undo_4 0 rfl rfl)
theorem dX7_undo_96 : decode cX7_undo 96 = .ok (.aload_n 0, 1) := dk_42 (dk_at dksX7_undo_4 3 rfl rfl)
theorem dX7_undo_97 : decode cX7_undo 97 = .ok (.aload_n 0, 1) := dk_42 (dk_at dksX7_undo_4 4 rfl rfl)
theorem dX7_undo_98 : decode cX7_undo 98 = .ok (.getfield 76, 3) := dk_180 0 76 (dk_at dksX7_undo_4 5 rfl rfl)
theorem dX7_undo_101 : decode cX7_undo 101 = .ok (.iload_n 1, 1) := dk_27 (dk_at dksX7_undo_4 8 rfl rfl)
theorem dX7_undo_102 : decode cX7_undo 102 = .ok (.sipush 369, 3) := dk_17 1 113 (dk_at dksX7_undo_4 9 rfl rfl)
theorem dX7_undo_105 : decode cX7_undo 105 = .ok (.iadd, 1) := dk_96 (dk_at dksX7_undo_4 12 rfl rfl)
theorem dX7_undo_106 : decode cX7_undo 106 = .ok (.iaload, 1) := dk_46 (dk_at dksX7_undo_4 13 rfl rfl)
theorem dX7_undo_107 : decode cX7_undo 107 = .ok (.invokevirtual 14, 3) := dk_182 0 14 (dk_at dksX7_undo_4 14 rfl rfl)
theorem dX7_undo_110 : decode cX7_undo 110 = .ok (.ireturn, 1) := dk_172 (dk_at dksX7_undo_4 17 rfl rfl)
abbrev cX7_read : ByteArray := prog_32_method_88_code
def yX7_read : MethodName := ⟨RX7, "read", "(II)I"⟩
def dkwX7_read_0 : List UInt8 := [42, 42, 27, 28, 182, 1, 133, 182, 1, 136, 172]
abbrev dktX7_read_0 : List UInt8 := dkwX7_read_0 ++ []
theorem dksX7_read_0 : cX7_read.data.toList.drop 0 = dktX7_read_0 := by decide +kernel
theorem dX7_read_0 : decode cX7_read 0 = .ok (.aload_n 0, 1) := dk_42 (dk_at dksX7_read_0 0 rfl rfl)
theorem dX7_read_1 : decode cX7_read 1 = .ok (.aload_n 0, 1) := dk_42 (dk_at dksX7_read_0 1 rfl rfl)
theorem dX7_read_2 : decode cX7_read 2 = .ok (.iload_n 1, 1) := dk_27 (dk_at dksX7_read_0 2 rfl rfl)
theorem dX7_read_3 : decode cX7_read 3 = .ok (.iload_n 2, 1) := dk_28 (dk_at dksX7_read_0 3 rfl rfl)
theorem dX7_read_4 : decode cX7_read 4 = .ok (.invokevirtual 389, 3) := dk_182 1 133 (dk_at dksX7_read_0 4 rfl rfl)
theorem dX7_read_7 : decode cX7_read 7 = .ok (.invokevirtual 392, 3) := dk_182 1 136 (dk_at dksX7_read_0 7 rfl rfl)
theorem dX7_read_10 : decode cX7_read 10 = .ok (.ireturn, 1) := dk_172 (dk_at dksX7_read_0 10 rfl rfl)
abbrev cX7_readsKept : ByteArray := prog_32_method_84_code
def yX7_readsKept : MethodName := ⟨RX7, "readsKept", "(II)I"⟩
def dkwX7_readsKept_1 : List UInt8 := [182, 0, 185, 172]
abbrev dktX7_readsKept_1 : List UInt8 := dkwX7_readsKept_1 ++ []
def dkwX7_readsKept_0 : List UInt8 := [27, 184, 0, 152, 153, 0, 10, 28, 184, 0, 156, 154, 0, 5, 2, 172, 42, 3, 182, 1, 123, 42, 27, 28]
abbrev dktX7_readsKept_0 : List UInt8 := dkwX7_readsKept_0 ++ dktX7_readsKept_1
theorem dksX7_readsKept_0 : cX7_readsKept.data.toList.drop 0 = dktX7_readsKept_0 := by decide +kernel
theorem dksX7_readsKept_1 : cX7_readsKept.data.toList.drop 24 = dktX7_readsKept_1 := dk_seg dksX7_readsKept_0 24 rfl rfl
theorem dX7_readsKept_0 : decode cX7_readsKept 0 = .ok (.iload_n 1, 1) := dk_27 (dk_at dksX7_readsKept_0 0 rfl rfl)
theorem dX7_readsKept_1 : decode cX7_readsKept 1 = .ok (.invokestatic 152, 3) := dk_184 0 152 (dk_at dksX7_readsKept_0 1 rfl rfl)
theorem dX7_readsKept_4 : decode cX7_readsKept 4 = .ok (.ifCond .eq 10, 3) := dk_153 0 10 (dk_at dksX7_readsKept_0 4 rfl rfl)
theorem dX7_readsKept_7 : decode cX7_readsKept 7 = .ok (.iload_n 2, 1) := dk_28 (dk_at dksX7_readsKept_0 7 rfl rfl)
theorem dX7_readsKept_8 : decode cX7_readsKept 8 = .ok (.invokestatic 156, 3) := dk_184 0 156 (dk_at dksX7_readsKept_0 8 rfl rfl)
theorem dX7_readsKept_11 : decode cX7_readsKept 11 = .ok (.ifCond .ne 5, 3) := dk_154 0 5 (dk_at dksX7_readsKept_0 11 rfl rfl)
theorem dX7_readsKept_14 : decode cX7_readsKept 14 = .ok (.iconst (-1), 1) := dk_2 (dk_at dksX7_readsKept_0 14 rfl rfl)
theorem dX7_readsKept_15 : decode cX7_readsKept 15 = .ok (.ireturn, 1) := dk_172 (dk_at dksX7_readsKept_0 15 rfl rfl)
theorem dX7_readsKept_16 : decode cX7_readsKept 16 = .ok (.aload_n 0, 1) := dk_42 (dk_at dksX7_readsKept_0 16 rfl rfl)
theorem dX7_readsKept_17 : decode cX7_readsKept 17 = .ok (.iconst 0, 1) := dk_3 (dk_at dksX7_readsKept_0 17 rfl rfl)
theorem dX7_readsKept_18 : decode cX7_readsKept 18 = .ok (.invokevirtual 379, 3) := dk_182 1 123 (dk_at dksX7_readsKept_0 18 rfl rfl)
theorem dX7_readsKept_21 : decode cX7_readsKept 21 = .ok (.aload_n 0, 1) := dk_42 (dk_at dksX7_readsKept_0 21 rfl rfl)
theorem dX7_readsKept_22 : decode cX7_readsKept 22 = .ok (.iload_n 1, 1) := dk_27 (dk_at dksX7_readsKept_0 22 rfl rfl)
theorem dX7_readsKept_23 : decode cX7_readsKept 23 = .ok (.iload_n 2, 1) := dk_28 (dk_at dksX7_readsKept_0 23 rfl rfl)
theorem dX7_readsKept_24 : decode cX7_readsKept 24 = .ok (.invokevirtual 185, 3) := dk_182 0 185 (dk_at dksX7_readsKept_1 0 rfl rfl)
theorem dX7_readsKept_27 : decode cX7_readsKept 27 = .ok (.ireturn, 1) := dk_172 (dk_at dksX7_readsKept_1 3 rfl rfl)
abbrev cX7_keeps : ByteArray := prog_32_method_81_code
def yX7_keeps : MethodName := ⟨RX7, "keeps", "(I)V"⟩
def dkwX7_keeps_7 : List UInt8 := [17, 1, 113, 96, 27, 79, 42, 89, 180, 0, 11, 4, 96, 181, 0, 11, 177]
abbrev dktX7_keeps_7 : List UInt8 := dkwX7_keeps_7 ++ []
def dkwX7_keeps_6 : List UInt8 := [180, 0, 31, 29, 47, 80, 132, 3, 1, 167, 255, 227, 42, 180, 0, 76, 28, 42, 180, 0, 11, 104]
abbrev dktX7_keeps_6 : List UInt8 := dkwX7_keeps_6 ++ dktX7_keeps_7
def dkwX7_keeps_5 : List UInt8 := [3, 62, 29, 16, 100, 162, 0, 29, 42, 180, 0, 79, 16, 100, 42, 180, 0, 11, 104, 29, 96, 42]
abbrev dktX7_keeps_5 : List UInt8 := dkwX7_keeps_5 ++ dktX7_keeps_6
def dkwX7_keeps_4 : List UInt8 := [180, 0, 76, 28, 42, 180, 0, 11, 104, 29, 96, 42, 180, 0, 28, 29, 46, 79, 132, 3, 1, 167, 255, 227]
abbrev dktX7_keeps_4 : List UInt8 := dkwX7_keeps_4 ++ dktX7_keeps_5
def dkwX7_keeps_3 : List UInt8 := [167, 255, 231, 42, 89, 180, 0, 11, 4, 100, 181, 0, 11, 3, 62, 29, 17, 1, 113, 162, 0, 28, 42]
abbrev dktX7_keeps_3 : List UInt8 := dkwX7_keeps_3 ++ dktX7_keeps_4
def dkwX7_keeps_2 : List UInt8 := [17, 5, 220, 162, 0, 24, 42, 180, 0, 79, 29, 42, 180, 0, 79, 29, 16, 100, 96, 47, 80, 132, 3, 1]
abbrev dktX7_keeps_2 : List UInt8 := dkwX7_keeps_2 ++ dktX7_keeps_3
def dkwX7_keeps_1 : List UInt8 := [180, 0, 76, 29, 42, 180, 0, 76, 29, 28, 96, 46, 79, 132, 3, 1, 167, 255, 231, 3, 62, 29]
abbrev dktX7_keeps_1 : List UInt8 := dkwX7_keeps_1 ++ dktX7_keeps_2
def dkwX7_keeps_0 : List UInt8 := [17, 1, 114, 61, 42, 180, 0, 11, 16, 16, 160, 0, 73, 3, 62, 29, 16, 15, 28, 104, 162, 0, 23, 42]
abbrev dktX7_keeps_0 : List UInt8 := dkwX7_keeps_0 ++ dktX7_keeps_1
theorem dksX7_keeps_0 : cX7_keeps.data.toList.drop 0 = dktX7_keeps_0 := by decide +kernel
theorem dksX7_keeps_1 : cX7_keeps.data.toList.drop 24 = dktX7_keeps_1 := dk_seg dksX7_keeps_0 24 rfl rfl
theorem dksX7_keeps_2 : cX7_keeps.data.toList.drop 46 = dktX7_keeps_2 := dk_seg dksX7_keeps_1 22 rfl rfl
theorem dksX7_keeps_3 : cX7_keeps.data.toList.drop 70 = dktX7_keeps_3 := dk_seg dksX7_keeps_2 24 rfl rfl
theorem dksX7_keeps_4 : cX7_keeps.data.toList.drop 93 = dktX7_keeps_4 := dk_seg dksX7_keeps_3 23 rfl rfl
theorem dksX7_keeps_5 : cX7_keeps.data.toList.drop 117 = dktX7_keeps_5 := dk_seg dksX7_keeps_4 24 rfl rfl
theorem dksX7_keeps_6 : cX7_keeps.data.toList.drop 139 = dktX7_keeps_6 := dk_seg dksX7_keeps_5 22 rfl rfl
theorem dksX7_keeps_7 : cX7_keeps.data.toList.drop 161 = dktX7_keeps_7 := dk_seg dksX7_keeps_6 22 rfl rfl
theorem dX7_keeps_0 : decode cX7_keeps 0 = .ok (.sipush 370, 3) := dk_17 1 114 (dk_at dksX7_keeps_0 0 rfl rfl)
theorem dX7_keeps_3 : decode cX7_keeps 3 = .ok (.istore_n 2, 1) := dk_61 (dk_at dksX7_keeps_0 3 rfl rfl)
theorem dX7_keeps_4 : decode cX7_keeps 4 = .ok (.aload_n 0, 1) := dk_42 (dk_at dksX7_keeps_0 4 rfl rfl)
theorem dX7_keeps_5 : decode cX7_keeps 5 = .ok (.getfield 11, 3) := dk_180 0 11 (dk_at dksX7_keeps_0 5 rfl rfl)
theorem dX7_keeps_8 : decode cX7_keeps 8 = .ok (.bipush 16, 2) := dk_16 16 (dk_at dksX7_keeps_0 8 rfl rfl)
theorem dX7_keeps_10 : decode cX7_keeps 10 = .ok (.if_icmp .ne 73, 3) := dk_160 0 73 (dk_at dksX7_keeps_0 10 rfl rfl)
theorem dX7_keeps_13 : decode cX7_keeps 13 = .ok (.iconst 0, 1) := dk_3 (dk_at dksX7_keeps_0 13 rfl rfl)
theorem dX7_keeps_14 : decode cX7_keeps 14 = .ok (.istore_n 3, 1) := dk_62 (dk_at dksX7_keeps_0 14 rfl rfl)
theorem dX7_keeps_15 : decode cX7_keeps 15 = .ok (.iload_n 3, 1) := dk_29 (dk_at dksX7_keeps_0 15 rfl rfl)
theorem dX7_keeps_16 : decode cX7_keeps 16 = .ok (.bipush 15, 2) := dk_16 15 (dk_at dksX7_keeps_0 16 rfl rfl)
theorem dX7_keeps_18 : decode cX7_keeps 18 = .ok (.iload_n 2, 1) := dk_28 (dk_at dksX7_keeps_0 18 rfl rfl)
theorem dX7_keeps_19 : decode cX7_keeps 19 = .ok (.imul, 1) := dk_104 (dk_at dksX7_keeps_0 19 rfl rfl)
theorem dX7_keeps_20 : decode cX7_keeps 20 = .ok (.if_icmp .ge 23, 3) := dk_162 0 23 (dk_at dksX7_keeps_0 20 rfl rfl)
theorem dX7_keeps_23 : decode cX7_keeps 23 = .ok (.aload_n 0, 1) := dk_42 (dk_at dksX7_keeps_0 23 rfl rfl)
theorem dX7_keeps_24 : decode cX7_keeps 24 = .ok (.getfield 76, 3) := dk_180 0 76 (dk_at dksX7_keeps_1 0 rfl rfl)
theorem dX7_keeps_27 : decode cX7_keeps 27 = .ok (.iload_n 3, 1) := dk_29 (dk_at dksX7_keeps_1 3 rfl rfl)
theorem dX7_keeps_28 : decode cX7_keeps 28 = .ok (.aload_n 0, 1) := dk_42 (dk_at dksX7_keeps_1 4 rfl rfl)
theorem dX7_keeps_29 : decode cX7_keeps 29 = .ok (.getfield 76, 3) := dk_180 0 76 (dk_at dksX7_keeps_1 5 rfl rfl)
theorem dX7_keeps_32 : decode cX7_keeps 32 = .ok (.iload_n 3, 1) := dk_29 (dk_at dksX7_keeps_1 8 rfl rfl)
theorem dX7_keeps_33 : decode cX7_keeps 33 = .ok (.iload_n 2, 1) := dk_28 (dk_at dksX7_keeps_1 9 rfl rfl)
theorem dX7_keeps_34 : decode cX7_keeps 34 = .ok (.iadd, 1) := dk_96 (dk_at dksX7_keeps_1 10 rfl rfl)
theorem dX7_keeps_35 : decode cX7_keeps 35 = .ok (.iaload, 1) := dk_46 (dk_at dksX7_keeps_1 11 rfl rfl)
theorem dX7_keeps_36 : decode cX7_keeps 36 = .ok (.iastore, 1) := dk_79 (dk_at dksX7_keeps_1 12 rfl rfl)
theorem dX7_keeps_37 : decode cX7_keeps 37 = .ok (.iinc 3 1, 3) := dk_132 3 1 (dk_at dksX7_keeps_1 13 rfl rfl)
theorem dX7_keeps_40 : decode cX7_keeps 40 = .ok (.goto (-25), 3) := dk_167 255 231 (dk_at dksX7_keeps_1 16 rfl rfl)
theorem dX7_keeps_43 : decode cX7_keeps 43 = .ok (.iconst 0, 1) := dk_3 (dk_at dksX7_keeps_1 19 rfl rfl)
theorem dX7_keeps_44 : decode cX7_keeps 44 = .ok (.istore_n 3, 1) := dk_62 (dk_at dksX7_keeps_1 20 rfl rfl)
theorem dX7_keeps_45 : decode cX7_keeps 45 = .ok (.iload_n 3, 1) := dk_29 (dk_at dksX7_keeps_1 21 rfl rfl)
theorem dX7_keeps_46 : decode cX7_keeps 46 = .ok (.sipush 1500, 3) := dk_17 5 220 (dk_at dksX7_keeps_2 0 rfl rfl)
theorem dX7_keeps_49 : decode cX7_keeps 49 = .ok (.if_icmp .ge 24, 3) := dk_162 0 24 (dk_at dksX7_keeps_2 3 rfl rfl)
theorem dX7_keeps_52 : decode cX7_keeps 52 = .ok (.aload_n 0, 1) := dk_42 (dk_at dksX7_keeps_2 6 rfl rfl)
theorem dX7_keeps_53 : decode cX7_keeps 53 = .ok (.getfield 79, 3) := dk_180 0 79 (dk_at dksX7_keeps_2 7 rfl rfl)
theorem dX7_keeps_56 : decode cX7_keeps 56 = .ok (.iload_n 3, 1) := dk_29 (dk_at dksX7_keeps_2 10 rfl rfl)
theorem dX7_keeps_57 : decode cX7_keeps 57 = .ok (.aload_n 0, 1) := dk_42 (dk_at dksX7_keeps_2 11 rfl rfl)
theorem dX7_keeps_58 : decode cX7_keeps 58 = .ok (.getfield 79, 3) := dk_180 0 79 (dk_at dksX7_keeps_2 12 rfl rfl)
theorem dX7_keeps_61 : decode cX7_keeps 61 = .ok (.iload_n 3, 1) := dk_29 (dk_at dksX7_keeps_2 15 rfl rfl)
theorem dX7_keeps_62 : decode cX7_keeps 62 = .ok (.bipush 100, 2) := dk_16 100 (dk_at dksX7_keeps_2 16 rfl rfl)
theorem dX7_keeps_64 : decode cX7_keeps 64 = .ok (.iadd, 1) := dk_96 (dk_at dksX7_keeps_2 18 rfl rfl)
theorem dX7_keeps_65 : decode cX7_keeps 65 = .ok (.laload, 1) := dk_47 (dk_at dksX7_keeps_2 19 rfl rfl)
theorem dX7_keeps_66 : decode cX7_keeps 66 = .ok (.lastore, 1) := dk_80 (dk_at dksX7_keeps_2 20 rfl rfl)
theorem dX7_keeps_67 : decode cX7_keeps 67 = .ok (.iinc 3 1, 3) := dk_132 3 1 (dk_at dksX7_keeps_2 21 rfl rfl)
theorem dX7_keeps_70 : decode cX7_keeps 70 = .ok (.goto (-25), 3) := dk_167 255 231 (dk_at dksX7_keeps_3 0 rfl rfl)
theorem dX7_keeps_73 : decode cX7_keeps 73 = .ok (.aload_n 0, 1) := dk_42 (dk_at dksX7_keeps_3 3 rfl rfl)
theorem dX7_keeps_74 : decode cX7_keeps 74 = .ok (.dup, 1) := dk_89 (dk_at dksX7_keeps_3 4 rfl rfl)
theorem dX7_keeps_75 : decode cX7_keeps 75 = .ok (.getfield 11, 3) := dk_180 0 11 (dk_at dksX7_keeps_3 5 rfl rfl)
theorem dX7_keeps_78 : decode cX7_keeps 78 = .ok (.iconst 1, 1) := dk_4 (dk_at dksX7_keeps_3 8 rfl rfl)
theorem dX7_keeps_79 : decode cX7_keeps 79 = .ok (.isub, 1) := dk_100 (dk_at dksX7_keeps_3 9 rfl rfl)
theorem dX7_keeps_80 : decode cX7_keeps 80 = .ok (.putfield 11, 3) := dk_181 0 11 (dk_at dksX7_keeps_3 10 rfl rfl)
theorem dX7_keeps_83 : decode cX7_keeps 83 = .ok (.iconst 0, 1) := dk_3 (dk_at dksX7_keeps_3 13 rfl rfl)
theorem dX7_keeps_84 : decode cX7_keeps 84 = .ok (.istore_n 3, 1) := dk_62 (dk_at dksX7_keeps_3 14 rfl rfl)
theorem dX7_keeps_85 : decode cX7_keeps 85 = .ok (.iload_n 3, 1) := dk_29 (dk_at dksX7_keeps_3 15 rfl rfl)
theorem dX7_keeps_86 : decode cX7_keeps 86 = .ok (.sipush 369, 3) := dk_17 1 113 (dk_at dksX7_keeps_3 16 rfl rfl)
theorem dX7_keeps_89 : decode cX7_keeps 89 = .ok (.if_icmp .ge 28, 3) := dk_162 0 28 (dk_at dksX7_keeps_3 19 rfl rfl)
theorem dX7_keeps_92 : decode cX7_keeps 92 = .ok (.aload_n 0, 1) := dk_42 (dk_at dksX7_keeps_3 22 rfl rfl)
theorem dX7_keeps_93 : decode cX7_keeps 93 = .ok (.getfield 76, 3) := dk_180 0 76 (dk_at dksX7_keeps_4 0 rfl rfl)
theorem dX7_keeps_96 : decode cX7_keeps 96 = .ok (.iload_n 2, 1) := dk_28 (dk_at dksX7_keeps_4 3 rfl rfl)
theorem dX7_keeps_97 : decode cX7_keeps 97 = .ok (.aload_n 0, 1) := dk_42 (dk_at dksX7_keeps_4 4 rfl rfl)
theorem dX7_keeps_98 : decode cX7_keeps 98 = .ok (.getfield 11, 3) := dk_180 0 11 (dk_at dksX7_keeps_4 5 rfl rfl)
theorem dX7_keeps_101 : decode cX7_keeps 101 = .ok (.imul, 1) := dk_104 (dk_at dksX7_keeps_4 8 rfl rfl)
theorem dX7_keeps_102 : decode cX7_keeps 102 = .ok (.iload_n 3, 1) := dk_29 (dk_at dksX7_keeps_4 9 rfl rfl)
theorem dX7_keeps_103 : decode cX7_keeps 103 = .ok (.iadd, 1) := dk_96 (dk_at dksX7_keeps_4 10 rfl rfl)
theorem dX7_keeps_104 : decode cX7_keeps 104 = .ok (.aload_n 0, 1) := dk_42 (dk_at dksX7_keeps_4 11 rfl rfl)
theorem dX7_keeps_105 : decode cX7_keeps 105 = .ok (.getfield 28, 3) := dk_180 0 28 (dk_at dksX7_keeps_4 12 rfl rfl)
theorem dX7_keeps_108 : decode cX7_keeps 108 = .ok (.iload_n 3, 1) := dk_29 (dk_at dksX7_keeps_4 15 rfl rfl)
theorem dX7_keeps_109 : decode cX7_keeps 109 = .ok (.iaload, 1) := dk_46 (dk_at dksX7_keeps_4 16 rfl rfl)
theorem dX7_keeps_110 : decode cX7_keeps 110 = .ok (.iastore, 1) := dk_79 (dk_at dksX7_keeps_4 17 rfl rfl)
theorem dX7_keeps_111 : decode cX7_keeps 111 = .ok (.iinc 3 1, 3) := dk_132 3 1 (dk_at dksX7_keeps_4 18 rfl rfl)
theorem dX7_keeps_114 : decode cX7_keeps 114 = .ok (.goto (-29), 3) := dk_167 255 227 (dk_at dksX7_keeps_4 21 rfl rfl)
theorem dX7_keeps_117 : decode cX7_keeps 117 = .ok (.iconst 0, 1) := dk_3 (dk_at dksX7_keeps_5 0 rfl rfl)
theorem dX7_keeps_118 : decode cX7_keeps 118 = .ok (.istore_n 3, 1) := dk_62 (dk_at dksX7_keeps_5 1 rfl rfl)
theorem dX7_keeps_119 : decode cX7_keeps 119 = .ok (.iload_n 3, 1) := dk_29 (dk_at dksX7_keeps_5 2 rfl rfl)
theorem dX7_keeps_120 : decode cX7_keeps 120 = .ok (.bipush 100, 2) := dk_16 100 (dk_at dksX7_keeps_5 3 rfl rfl)
theorem dX7_keeps_122 : decode cX7_keeps 122 = .ok (.if_icmp .ge 29, 3) := dk_162 0 29 (dk_at dksX7_keeps_5 5 rfl rfl)
theorem dX7_keeps_125 : decode cX7_keeps 125 = .ok (.aload_n 0, 1) := dk_42 (dk_at dksX7_keeps_5 8 rfl rfl)
theorem dX7_keeps_126 : decode cX7_keeps 126 = .ok (.getfield 79, 3) := dk_180 0 79 (dk_at dksX7_keeps_5 9 rfl rfl)
theorem dX7_keeps_129 : decode cX7_keeps 129 = .ok (.bipush 100, 2) := dk_16 100 (dk_at dksX7_keeps_5 12 rfl rfl)
theorem dX7_keeps_131 : decode cX7_keeps 131 = .ok (.aload_n 0, 1) := dk_42 (dk_at dksX7_keeps_5 14 rfl rfl)
theorem dX7_keeps_132 : decode cX7_keeps 132 = .ok (.getfield 11, 3) := dk_180 0 11 (dk_at dksX7_keeps_5 15 rfl rfl)
theorem dX7_keeps_135 : decode cX7_keeps 135 = .ok (.imul, 1) := dk_104 (dk_at dksX7_keeps_5 18 rfl rfl)
theorem dX7_keeps_136 : decode cX7_keeps 136 = .ok (.iload_n 3, 1) := dk_29 (dk_at dksX7_keeps_5 19 rfl rfl)
theorem dX7_keeps_137 : decode cX7_keeps 137 = .ok (.iadd, 1) := dk_96 (dk_at dksX7_keeps_5 20 rfl rfl)
theorem dX7_keeps_138 : decode cX7_keeps 138 = .ok (.aload_n 0, 1) := dk_42 (dk_at dksX7_keeps_5 21 rfl rfl)
theorem dX7_keeps_139 : decode cX7_keeps 139 = .ok (.getfield 31, 3) := dk_180 0 31 (dk_at dksX7_keeps_6 0 rfl rfl)
theorem dX7_keeps_142 : decode cX7_keeps 142 = .ok (.iload_n 3, 1) := dk_29 (dk_at dksX7_keeps_6 3 rfl rfl)
theorem dX7_keeps_143 : decode cX7_keeps 143 = .ok (.laload, 1) := dk_47 (dk_at dksX7_keeps_6 4 rfl rfl)
theorem dX7_keeps_144 : decode cX7_keeps 144 = .ok (.lastore, 1) := dk_80 (dk_at dksX7_keeps_6 5 rfl rfl)
theorem dX7_keeps_145 : decode cX7_keeps 145 = .ok (.iinc 3 1, 3) := dk_132 3 1 (dk_at dksX7_keeps_6 6 rfl rfl)
theorem dX7_keeps_148 : decode cX7_keeps 148 = .ok (.goto (-29), 3) := dk_167 255 227 (dk_at dksX7_keeps_6 9 rfl rfl)
theorem dX7_keeps_151 : decode cX7_keeps 151 = .ok (.aload_n 0, 1) := dk_42 (dk_at dksX7_keeps_6 12 rfl rfl)
theorem dX7_keeps_152 : decode cX7_keeps 152 = .ok (.getfield 76, 3) := dk_180 0 76 (dk_at dksX7_keeps_6 13 rfl rfl)
theorem dX7_keeps_155 : decode cX7_keeps 155 = .ok (.iload_n 2, 1) := dk_28 (dk_at dksX7_keeps_6 16 rfl rfl)
theorem dX7_keeps_156 : decode cX7_keeps 156 = .ok (.aload_n 0, 1) := dk_42 (dk_at dksX7_keeps_6 17 rfl rfl)
theorem dX7_keeps_157 : decode cX7_keeps 157 = .ok (.getfield 11, 3) := dk_180 0 11 (dk_at dksX7_keeps_6 18 rfl rfl)
theorem dX7_keeps_160 : decode cX7_keeps 160 = .ok (.imul, 1) := dk_104 (dk_at dksX7_keeps_6 21 rfl rfl)
theorem dX7_keeps_161 : decode cX7_keeps 161 = .ok (.sipush 369, 3) := dk_17 1 113 (dk_at dksX7_keeps_7 0 rfl rfl)
theorem dX7_keeps_164 : decode cX7_keeps 164 = .ok (.iadd, 1) := dk_96 (dk_at dksX7_keeps_7 3 rfl rfl)
theorem dX7_keeps_165 : decode cX7_keeps 165 = .ok (.iload_n 1, 1) := dk_27 (dk_at dksX7_keeps_7 4 rfl rfl)
theorem dX7_keeps_166 : decode cX7_keeps 166 = .ok (.iastore, 1) := dk_79 (dk_at dksX7_keeps_7 5 rfl rfl)
theorem dX7_keeps_167 : decode cX7_keeps 167 = .ok (.aload_n 0, 1) := dk_42 (dk_at dksX7_keeps_7 6 rfl rfl)
theorem dX7_keeps_168 : decode cX7_keeps 168 = .ok (.dup, 1) := dk_89 (dk_at dksX7_keeps_7 7 rfl rfl)
theorem dX7_keeps_169 : decode cX7_keeps 169 = .ok (.getfield 11, 3) := dk_180 0 11 (dk_at dksX7_keeps_7 8 rfl rfl)
theorem dX7_keeps_172 : decode cX7_keeps 172 = .ok (.iconst 1, 1) := dk_4 (dk_at dksX7_keeps_7 11 rfl rfl)
theorem dX7_keeps_173 : decode cX7_keeps 173 = .ok (.iadd, 1) := dk_96 (dk_at dksX7_keeps_7 12 rfl rfl)
theorem dX7_keeps_174 : decode cX7_keeps 174 = .ok (.putfield 11, 3) := dk_181 0 11 (dk_at dksX7_keeps_7 13 rfl rfl)
theorem dX7_keeps_177 : decode cX7_keeps 177 = .ok (.return_, 1) := dk_177 (dk_at dksX7_keeps_7 16 rfl rfl)
abbrev cX7_goodOr : ByteArray := prog_32_method_83_code
def yX7_goodOr : MethodName := ⟨RX7, "goodOr", "(I)I"⟩
def dkwX7_goodOr_0 : List UInt8 := [27, 156, 0, 11, 42, 27, 182, 0, 146, 167, 0, 8, 42, 27, 182, 0, 14, 172]
abbrev dktX7_goodOr_0 : List UInt8 := dkwX7_goodOr_0 ++ []
theorem dksX7_goodOr_0 : cX7_goodOr.data.toList.drop 0 = dktX7_goodOr_0 := by decide +kernel
theorem dX7_goodOr_0 : decode cX7_goodOr 0 = .ok (.iload_n 1, 1) := dk_27 (dk_at dksX7_goodOr_0 0 rfl rfl)
theorem dX7_goodOr_1 : decode cX7_goodOr 1 = .ok (.ifCond .ge 11, 3) := dk_156 0 11 (dk_at dksX7_goodOr_0 1 rfl rfl)
theorem dX7_goodOr_4 : decode cX7_goodOr 4 = .ok (.aload_n 0, 1) := dk_42 (dk_at dksX7_goodOr_0 4 rfl rfl)
theorem dX7_goodOr_5 : decode cX7_goodOr 5 = .ok (.iload_n 1, 1) := dk_27 (dk_at dksX7_goodOr_0 5 rfl rfl)
theorem dX7_goodOr_6 : decode cX7_goodOr 6 = .ok (.invokevirtual 146, 3) := dk_182 0 146 (dk_at dksX7_goodOr_0 6 rfl rfl)
theorem dX7_goodOr_9 : decode cX7_goodOr 9 = .ok (.goto 8, 3) := dk_167 0 8 (dk_at dksX7_goodOr_0 9 rfl rfl)
theorem dX7_goodOr_12 : decode cX7_goodOr 12 = .ok (.aload_n 0, 1) := dk_42 (dk_at dksX7_goodOr_0 12 rfl rfl)
theorem dX7_goodOr_13 : decode cX7_goodOr 13 = .ok (.iload_n 1, 1) := dk_27 (dk_at dksX7_goodOr_0 13 rfl rfl)
theorem dX7_goodOr_14 : decode cX7_goodOr 14 = .ok (.invokevirtual 14, 3) := dk_182 0 14 (dk_at dksX7_goodOr_0 14 rfl rfl)
theorem dX7_goodOr_17 : decode cX7_goodOr 17 = .ok (.ireturn, 1) := dk_172 (dk_at dksX7_goodOr_0 17 rfl rfl)
abbrev cX7_loop : ByteArray := prog_32_method_89_code
def yX7_loop : MethodName := ⟨RX7, "loop", "(III)I"⟩
def dkwX7_loop_0 : List UInt8 := [42, 42, 27, 28, 29, 182, 1, 139, 182, 1, 136, 172]
abbrev dktX7_loop_0 : List UInt8 := dkwX7_loop_0 ++ []
theorem dksX7_loop_0 : cX7_loop.data.toList.drop 0 = dktX7_loop_0 := by decide +kernel
theorem dX7_loop_0 : decode cX7_loop 0 = .ok (.aload_n 0, 1) := dk_42 (dk_at dksX7_loop_0 0 rfl rfl)
theorem dX7_loop_1 : decode cX7_loop 1 = .ok (.aload_n 0, 1) := dk_42 (dk_at dksX7_loop_0 1 rfl rfl)
theorem dX7_loop_2 : decode cX7_loop 2 = .ok (.iload_n 1, 1) := dk_27 (dk_at dksX7_loop_0 2 rfl rfl)
theorem dX7_loop_3 : decode cX7_loop 3 = .ok (.iload_n 2, 1) := dk_28 (dk_at dksX7_loop_0 3 rfl rfl)
theorem dX7_loop_4 : decode cX7_loop 4 = .ok (.iload_n 3, 1) := dk_29 (dk_at dksX7_loop_0 4 rfl rfl)
theorem dX7_loop_5 : decode cX7_loop 5 = .ok (.invokevirtual 395, 3) := dk_182 1 139 (dk_at dksX7_loop_0 5 rfl rfl)
theorem dX7_loop_8 : decode cX7_loop 8 = .ok (.invokevirtual 392, 3) := dk_182 1 136 (dk_at dksX7_loop_0 8 rfl rfl)
theorem dX7_loop_11 : decode cX7_loop 11 = .ok (.ireturn, 1) := dk_172 (dk_at dksX7_loop_0 11 rfl rfl)
abbrev cX7_loopsKept : ByteArray := prog_32_method_85_code
def yX7_loopsKept : MethodName := ⟨RX7, "loopsKept", "(III)I"⟩
def dkwX7_loopsKept_3 : List UInt8 := [132, 5, 1, 167, 255, 227, 21, 4, 172]
abbrev dktX7_loopsKept_3 : List UInt8 := dkwX7_loopsKept_3 ++ []
def dkwX7_loopsKept_2 : List UInt8 := [29, 163, 0, 29, 21, 4, 42, 27, 21, 5, 182, 0, 185, 154, 0, 7, 4, 167, 0, 4, 3, 96, 54, 4]
abbrev dktX7_loopsKept_2 : List UInt8 := dkwX7_loopsKept_2 ++ dktX7_loopsKept_3
def dkwX7_loopsKept_1 : List UInt8 := [3, 16, 31, 184, 0, 18, 154, 0, 5, 2, 172, 42, 4, 182, 1, 123, 3, 54, 4, 28, 54, 5, 21, 5]
abbrev dktX7_loopsKept_1 : List UInt8 := dkwX7_loopsKept_1 ++ dktX7_loopsKept_2
def dkwX7_loopsKept_0 : List UInt8 := [27, 184, 0, 152, 153, 0, 29, 28, 184, 0, 156, 153, 0, 22, 29, 184, 0, 156, 153, 0, 15, 29, 28, 100]
abbrev dktX7_loopsKept_0 : List UInt8 := dkwX7_loopsKept_0 ++ dktX7_loopsKept_1
theorem dksX7_loopsKept_0 : cX7_loopsKept.data.toList.drop 0 = dktX7_loopsKept_0 := by decide +kernel
theorem dksX7_loopsKept_1 : cX7_loopsKept.data.toList.drop 24 = dktX7_loopsKept_1 := dk_seg dksX7_loopsKept_0 24 rfl rfl
theorem dksX7_loopsKept_2 : cX7_loopsKept.data.toList.drop 48 = dktX7_loopsKept_2 := dk_seg dksX7_loopsKept_1 24 rfl rfl
theorem dksX7_loopsKept_3 : cX7_loopsKept.data.toList.drop 72 = dktX7_loopsKept_3 := dk_seg dksX7_loopsKept_2 24 rfl rfl
theorem dX7_loopsKept_0 : decode cX7_loopsKept 0 = .ok (.iload_n 1, 1) := dk_27 (dk_at dksX7_loopsKept_0 0 rfl rfl)
theorem dX7_loopsKept_1 : decode cX7_loopsKept 1 = .ok (.invokestatic 152, 3) := dk_184 0 152 (dk_at dksX7_loopsKept_0 1 rfl rfl)
theorem dX7_loopsKept_4 : decode cX7_loopsKept 4 = .ok (.ifCond .eq 29, 3) := dk_153 0 29 (dk_at dksX7_loopsKept_0 4 rfl rfl)
theorem dX7_loopsKept_7 : decode cX7_loopsKept 7 = .ok (.iload_n 2, 1) := dk_28 (dk_at dksX7_loopsKept_0 7 rfl rfl)
theorem dX7_loopsKept_8 : decode cX7_loopsKept 8 = .ok (.invokestatic 156, 3) := dk_184 0 156 (dk_at dksX7_loopsKept_0 8 rfl rfl)
theorem dX7_loopsKept_11 : decode cX7_loopsKept 11 = .ok (.ifCond .eq 22, 3) := dk_153 0 22 (dk_at dksX7_loopsKept_0 11 rfl rfl)
theorem dX7_loopsKept_14 : decode cX7_loopsKept 14 = .ok (.iload_n 3, 1) := dk_29 (dk_at dksX7_loopsKept_0 14 rfl rfl)
theorem dX7_loopsKept_15 : decode cX7_loopsKept 15 = .ok (.invokestatic 156, 3) := dk_184 0 156 (dk_at dksX7_loopsKept_0 15 rfl rfl)
theorem dX7_loopsKept_18 : decode cX7_loopsKept 18 = .ok (.ifCond .eq 15, 3) := dk_153 0 15 (dk_at dksX7_loopsKept_0 18 rfl rfl)
theorem dX7_loopsKept_21 : decode cX7_loopsKept 21 = .ok (.iload_n 3, 1) := dk_29 (dk_at dksX7_loopsKept_0 21 rfl rfl)
theorem dX7_loopsKept_22 : decode cX7_loopsKept 22 = .ok (.iload_n 2, 1) := dk_28 (dk_at dksX7_loopsKept_0 22 rfl rfl)
theorem dX7_loopsKept_23 : decode cX7_loopsKept 23 = .ok (.isub, 1) := dk_100 (dk_at dksX7_loopsKept_0 23 rfl rfl)
theorem dX7_loopsKept_24 : decode cX7_loopsKept 24 = .ok (.iconst 0, 1) := dk_3 (dk_at dksX7_loopsKept_1 0 rfl rfl)
theorem dX7_loopsKept_25 : decode cX7_loopsKept 25 = .ok (.bipush 31, 2) := dk_16 31 (dk_at dksX7_loopsKept_1 1 rfl rfl)
theorem dX7_loopsKept_27 : decode cX7_loopsKept 27 = .ok (.invokestatic 18, 3) := dk_184 0 18 (dk_at dksX7_loopsKept_1 3 rfl rfl)
theorem dX7_loopsKept_30 : decode cX7_loopsKept 30 = .ok (.ifCond .ne 5, 3) := dk_154 0 5 (dk_at dksX7_loopsKept_1 6 rfl rfl)
theorem dX7_loopsKept_33 : decode cX7_loopsKept 33 = .ok (.iconst (-1), 1) := dk_2 (dk_at dksX7_loopsKept_1 9 rfl rfl)
theorem dX7_loopsKept_34 : decode cX7_loopsKept 34 = .ok (.ireturn, 1) := dk_172 (dk_at dksX7_loopsKept_1 10 rfl rfl)
theorem dX7_loopsKept_35 : decode cX7_loopsKept 35 = .ok (.aload_n 0, 1) := dk_42 (dk_at dksX7_loopsKept_1 11 rfl rfl)
theorem dX7_loopsKept_36 : decode cX7_loopsKept 36 = .ok (.iconst 1, 1) := dk_4 (dk_at dksX7_loopsKept_1 12 rfl rfl)
theorem dX7_loopsKept_37 : decode cX7_loopsKept 37 = .ok (.invokevirtual 379, 3) := dk_182 1 123 (dk_at dksX7_loopsKept_1 13 rfl rfl)
theorem dX7_loopsKept_40 : decode cX7_loopsKept 40 = .ok (.iconst 0, 1) := dk_3 (dk_at dksX7_loopsKept_1 16 rfl rfl)
theorem dX7_loopsKept_41 : decode cX7_loopsKept 41 = .ok (.istore 4, 2) := dk_54 4 (dk_at dksX7_loopsKept_1 17 rfl rfl)
theorem dX7_loopsKept_43 : decode cX7_loopsKept 43 = .ok (.iload_n 2, 1) := dk_28 (dk_at dksX7_loopsKept_1 19 rfl rfl)
theorem dX7_loopsKept_44 : decode cX7_loopsKept 44 = .ok (.istore 5, 2) := dk_54 5 (dk_at dksX7_loopsKept_1 20 rfl rfl)
theorem dX7_loopsKept_46 : decode cX7_loopsKept 46 = .ok (.iload 5, 2) := dk_21 5 (dk_at dksX7_loopsKept_1 22 rfl rfl)
theorem dX7_loopsKept_48 : decode cX7_loopsKept 48 = .ok (.iload_n 3, 1) := dk_29 (dk_at dksX7_loopsKept_2 0 rfl rfl)
theorem dX7_loopsKept_49 : decode cX7_loopsKept 49 = .ok (.if_icmp .gt 29, 3) := dk_163 0 29 (dk_at dksX7_loopsKept_2 1 rfl rfl)
theorem dX7_loopsKept_52 : decode cX7_loopsKept 52 = .ok (.iload 4, 2) := dk_21 4 (dk_at dksX7_loopsKept_2 4 rfl rfl)
theorem dX7_loopsKept_54 : decode cX7_loopsKept 54 = .ok (.aload_n 0, 1) := dk_42 (dk_at dksX7_loopsKept_2 6 rfl rfl)
theorem dX7_loopsKept_55 : decode cX7_loopsKept 55 = .ok (.iload_n 1, 1) := dk_27 (dk_at dksX7_loopsKept_2 7 rfl rfl)
theorem dX7_loopsKept_56 : decode cX7_loopsKept 56 = .ok (.iload 5, 2) := dk_21 5 (dk_at dksX7_loopsKept_2 8 rfl rfl)
theorem dX7_loopsKept_58 : decode cX7_loopsKept 58 = .ok (.invokevirtual 185, 3) := dk_182 0 185 (dk_at dksX7_loopsKept_2 10 rfl rfl)
theorem dX7_loopsKept_61 : decode cX7_loopsKept 61 = .ok (.ifCond .ne 7, 3) := dk_154 0 7 (dk_at dksX7_loopsKept_2 13 rfl rfl)
theorem dX7_loopsKept_64 : decode cX7_loopsKept 64 = .ok (.iconst 1, 1) := dk_4 (dk_at dksX7_loopsKept_2 16 rfl rfl)
theorem dX7_loopsKept_65 : decode cX7_loopsKept 65 = .ok (.goto 4, 3) := dk_167 0 4 (dk_at dksX7_loopsKept_2 17 rfl rfl)
theorem dX7_loopsKept_68 : decode cX7_loopsKept 68 = .ok (.iconst 0, 1) := dk_3 (dk_at dksX7_loopsKept_2 20 rfl rfl)
theorem dX7_loopsKept_69 : decode cX7_loopsKept 69 = .ok (.iadd, 1) := dk_96 (dk_at dksX7_loopsKept_2 21 rfl rfl)
theorem dX7_loopsKept_70 : decode cX7_loopsKept 70 = .ok (.istore 4, 2) := dk_54 4 (dk_at dksX7_loopsKept_2 22 rfl rfl)
theorem dX7_loopsKept_72 : decode cX7_loopsKept 72 = .ok (.iinc 5 1, 3) := dk_132 5 1 (dk_at dksX7_loopsKept_3 0 rfl rfl)
theorem dX7_loopsKept_75 : decode cX7_loopsKept 75 = .ok (.goto (-29), 3) := dk_167 255 227 (dk_at dksX7_loopsKept_3 3 rfl rfl)
theorem dX7_loopsKept_78 : decode cX7_loopsKept 78 = .ok (.iload 4, 2) := dk_21 4 (dk_at dksX7_loopsKept_3 6 rfl rfl)
theorem dX7_loopsKept_80 : decode cX7_loopsKept 80 = .ok (.ireturn, 1) := dk_172 (dk_at dksX7_loopsKept_3 8 rfl rfl)
abbrev cX7_drop : ByteArray := prog_32_method_90_code
def yX7_drop : MethodName := ⟨RX7, "drop", "(II)I"⟩
def dkwX7_drop_0 : List UInt8 := [42, 42, 27, 28, 182, 1, 142, 182, 1, 136, 172]
abbrev dktX7_drop_0 : List UInt8 := dkwX7_drop_0 ++ []
theorem dksX7_drop_0 : cX7_drop.data.toList.drop 0 = dktX7_drop_0 := by decide +kernel
theorem dX7_drop_0 : decode cX7_drop 0 = .ok (.aload_n 0, 1) := dk_42 (dk_at dksX7_drop_0 0 rfl rfl)
theorem dX7_drop_1 : decode cX7_drop 1 = .ok (.aload_n 0, 1) := dk_42 (dk_at dksX7_drop_0 1 rfl rfl)
theorem dX7_drop_2 : decode cX7_drop 2 = .ok (.iload_n 1, 1) := dk_27 (dk_at dksX7_drop_0 2 rfl rfl)
theorem dX7_drop_3 : decode cX7_drop 3 = .ok (.iload_n 2, 1) := dk_28 (dk_at dksX7_drop_0 3 rfl rfl)
theorem dX7_drop_4 : decode cX7_drop 4 = .ok (.invokevirtual 398, 3) := dk_182 1 142 (dk_at dksX7_drop_0 4 rfl rfl)
theorem dX7_drop_7 : decode cX7_drop 7 = .ok (.invokevirtual 392, 3) := dk_182 1 136 (dk_at dksX7_drop_0 7 rfl rfl)
theorem dX7_drop_10 : decode cX7_drop 10 = .ok (.ireturn, 1) := dk_172 (dk_at dksX7_drop_0 10 rfl rfl)
abbrev cX7_dropsKept : ByteArray := prog_32_method_86_code
def yX7_dropsKept : MethodName := ⟨RX7, "dropsKept", "(II)I"⟩
def dkwX7_dropsKept_1 : List UInt8 := [29, 154, 0, 6, 16, 253, 172, 42, 5, 182, 1, 123, 42, 27, 28, 182, 1, 126, 29, 172]
abbrev dktX7_dropsKept_1 : List UInt8 := dkwX7_dropsKept_1 ++ []
def dkwX7_dropsKept_0 : List UInt8 := [27, 184, 0, 152, 153, 0, 10, 28, 184, 0, 156, 154, 0, 5, 2, 172, 42, 27, 3, 28, 182, 0, 159, 62]
abbrev dktX7_dropsKept_0 : List UInt8 := dkwX7_dropsKept_0 ++ dktX7_dropsKept_1
theorem dksX7_dropsKept_0 : cX7_dropsKept.data.toList.drop 0 = dktX7_dropsKept_0 := by decide +kernel
theorem dksX7_dropsKept_1 : cX7_dropsKept.data.toList.drop 24 = dktX7_dropsKept_1 := dk_seg dksX7_dropsKept_0 24 rfl rfl
theorem dX7_dropsKept_0 : decode cX7_dropsKept 0 = .ok (.iload_n 1, 1) := dk_27 (dk_at dksX7_dropsKept_0 0 rfl rfl)
theorem dX7_dropsKept_1 : decode cX7_dropsKept 1 = .ok (.invokestatic 152, 3) := dk_184 0 152 (dk_at dksX7_dropsKept_0 1 rfl rfl)
theorem dX7_dropsKept_4 : decode cX7_dropsKept 4 = .ok (.ifCond .eq 10, 3) := dk_153 0 10 (dk_at dksX7_dropsKept_0 4 rfl rfl)
theorem dX7_dropsKept_7 : decode cX7_dropsKept 7 = .ok (.iload_n 2, 1) := dk_28 (dk_at dksX7_dropsKept_0 7 rfl rfl)
theorem dX7_dropsKept_8 : decode cX7_dropsKept 8 = .ok (.invokestatic 156, 3) := dk_184 0 156 (dk_at dksX7_dropsKept_0 8 rfl rfl)
theorem dX7_dropsKept_11 : decode cX7_dropsKept 11 = .ok (.ifCond .ne 5, 3) := dk_154 0 5 (dk_at dksX7_dropsKept_0 11 rfl rfl)
theorem dX7_dropsKept_14 : decode cX7_dropsKept 14 = .ok (.iconst (-1), 1) := dk_2 (dk_at dksX7_dropsKept_0 14 rfl rfl)
theorem dX7_dropsKept_15 : decode cX7_dropsKept 15 = .ok (.ireturn, 1) := dk_172 (dk_at dksX7_dropsKept_0 15 rfl rfl)
theorem dX7_dropsKept_16 : decode cX7_dropsKept 16 = .ok (.aload_n 0, 1) := dk_42 (dk_at dksX7_dropsKept_0 16 rfl rfl)
theorem dX7_dropsKept_17 : decode cX7_dropsKept 17 = .ok (.iload_n 1, 1) := dk_27 (dk_at dksX7_dropsKept_0 17 rfl rfl)
theorem dX7_dropsKept_18 : decode cX7_dropsKept 18 = .ok (.iconst 0, 1) := dk_3 (dk_at dksX7_dropsKept_0 18 rfl rfl)
theorem dX7_dropsKept_19 : decode cX7_dropsKept 19 = .ok (.iload_n 2, 1) := dk_28 (dk_at dksX7_dropsKept_0 19 rfl rfl)
theorem dX7_dropsKept_20 : decode cX7_dropsKept 20 = .ok (.invokevirtual 159, 3) := dk_182 0 159 (dk_at dksX7_dropsKept_0 20 rfl rfl)
theorem dX7_dropsKept_23 : decode cX7_dropsKept 23 = .ok (.istore_n 3, 1) := dk_62 (dk_at dksX7_dropsKept_0 23 rfl rfl)
theorem dX7_dropsKept_24 : decode cX7_dropsKept 24 = .ok (.iload_n 3, 1) := dk_29 (dk_at dksX7_dropsKept_1 0 rfl rfl)
theorem dX7_dropsKept_25 : decode cX7_dropsKept 25 = .ok (.ifCond .ne 6, 3) := dk_154 0 6 (dk_at dksX7_dropsKept_1 1 rfl rfl)
theorem dX7_dropsKept_28 : decode cX7_dropsKept 28 = .ok (.bipush (-3), 2) := dk_16 253 (dk_at dksX7_dropsKept_1 4 rfl rfl)
theorem dX7_dropsKept_30 : decode cX7_dropsKept 30 = .ok (.ireturn, 1) := dk_172 (dk_at dksX7_dropsKept_1 6 rfl rfl)
theorem dX7_dropsKept_31 : decode cX7_dropsKept 31 = .ok (.aload_n 0, 1) := dk_42 (dk_at dksX7_dropsKept_1 7 rfl rfl)
theorem dX7_dropsKept_32 : decode cX7_dropsKept 32 = .ok (.iconst 2, 1) := dk_5 (dk_at dksX7_dropsKept_1 8 rfl rfl)
theorem dX7_dropsKept_33 : decode cX7_dropsKept 33 = .ok (.invokevirtual 379, 3) := dk_182 1 123 (dk_at dksX7_dropsKept_1 9 rfl rfl)
theorem dX7_dropsKept_36 : decode cX7_dropsKept 36 = .ok (.aload_n 0, 1) := dk_42 (dk_at dksX7_dropsKept_1 12 rfl rfl)
theorem dX7_dropsKept_37 : decode cX7_dropsKept 37 = .ok (.iload_n 1, 1) := dk_27 (dk_at dksX7_dropsKept_1 13 rfl rfl)
theorem dX7_dropsKept_38 : decode cX7_dropsKept 38 = .ok (.iload_n 2, 1) := dk_28 (dk_at dksX7_dropsKept_1 14 rfl rfl)
theorem dX7_dropsKept_39 : decode cX7_dropsKept 39 = .ok (.invokevirtual 382, 3) := dk_182 1 126 (dk_at dksX7_dropsKept_1 15 rfl rfl)
theorem dX7_dropsKept_42 : decode cX7_dropsKept 42 = .ok (.iload_n 3, 1) := dk_29 (dk_at dksX7_dropsKept_1 18 rfl rfl)
theorem dX7_dropsKept_43 : decode cX7_dropsKept 43 = .ok (.ireturn, 1) := dk_172 (dk_at dksX7_dropsKept_1 19 rfl rfl)
abbrev cX7_drops : ByteArray := prog_32_method_79_code
def yX7_drops : MethodName := ⟨RX7, "drops", "(II)V"⟩
def dkwX7_drops_1 : List UInt8 := [158, 0, 11, 42, 27, 16, 50, 29, 182, 1, 100, 177]
abbrev dktX7_drops_1 : List UInt8 := dkwX7_drops_1 ++ []
def dkwX7_drops_0 : List UInt8 := [42, 27, 3, 42, 27, 3, 28, 182, 0, 159, 182, 1, 100, 42, 27, 16, 50, 28, 182, 0, 159, 62, 29]
abbrev dktX7_drops_0 : List UInt8 := dkwX7_drops_0 ++ dktX7_drops_1
theorem dksX7_drops_0 : cX7_drops.data.toList.drop 0 = dktX7_drops_0 := by decide +kernel
theorem dksX7_drops_1 : cX7_drops.data.toList.drop 23 = dktX7_drops_1 := dk_seg dksX7_drops_0 23 rfl rfl
theorem dX7_drops_0 : decode cX7_drops 0 = .ok (.aload_n 0, 1) := dk_42 (dk_at dksX7_drops_0 0 rfl rfl)
theorem dX7_drops_1 : decode cX7_drops 1 = .ok (.iload_n 1, 1) := dk_27 (dk_at dksX7_drops_0 1 rfl rfl)
theorem dX7_drops_2 : decode cX7_drops 2 = .ok (.iconst 0, 1) := dk_3 (dk_at dksX7_drops_0 2 rfl rfl)
theorem dX7_drops_3 : decode cX7_drops 3 = .ok (.aload_n 0, 1) := dk_42 (dk_at dksX7_drops_0 3 rfl rfl)
theorem dX7_drops_4 : decode cX7_drops 4 = .ok (.iload_n 1, 1) := dk_27 (dk_at dksX7_drops_0 4 rfl rfl)
theorem dX7_drops_5 : decode cX7_drops 5 = .ok (.iconst 0, 1) := dk_3 (dk_at dksX7_drops_0 5 rfl rfl)
theorem dX7_drops_6 : decode cX7_drops 6 = .ok (.iload_n 2, 1) := dk_28 (dk_at dksX7_drops_0 6 rfl rfl)
theorem dX7_drops_7 : decode cX7_drops 7 = .ok (.invokevirtual 159, 3) := dk_182 0 159 (dk_at dksX7_drops_0 7 rfl rfl)
theorem dX7_drops_10 : decode cX7_drops 10 = .ok (.invokevirtual 356, 3) := dk_182 1 100 (dk_at dksX7_drops_0 10 rfl rfl)
theorem dX7_drops_13 : decode cX7_drops 13 = .ok (.aload_n 0, 1) := dk_42 (dk_at dksX7_drops_0 13 rfl rfl)
theorem dX7_drops_14 : decode cX7_drops 14 = .ok (.iload_n 1, 1) := dk_27 (dk_at dksX7_drops_0 14 rfl rfl)
theorem dX7_drops_15 : decode cX7_drops 15 = .ok (.bipush 50, 2) := dk_16 50 (dk_at dksX7_drops_0 15 rfl rfl)
theorem dX7_drops_17 : decode cX7_drops 17 = .ok (.iload_n 2, 1) := dk_28 (dk_at dksX7_drops_0 17 rfl rfl)
theorem dX7_drops_18 : decode cX7_drops 18 = .ok (.invokevirtual 159, 3) := dk_182 0 159 (dk_at dksX7_drops_0 18 rfl rfl)
theorem dX7_drops_21 : decode cX7_drops 21 = .ok (.istore_n 3, 1) := dk_62 (dk_at dksX7_drops_0 21 rfl rfl)
theorem dX7_drops_22 : decode cX7_drops 22 = .ok (.iload_n 3, 1) := dk_29 (dk_at dksX7_drops_0 22 rfl rfl)
theorem dX7_drops_23 : decode cX7_drops 23 = .ok (.ifCond .le 11, 3) := dk_158 0 11 (dk_at dksX7_drops_1 0 rfl rfl)
theorem dX7_drops_26 : decode cX7_drops 26 = .ok (.aload_n 0, 1) := dk_42 (dk_at dksX7_drops_1 3 rfl rfl)
theorem dX7_drops_27 : decode cX7_drops 27 = .ok (.iload_n 1, 1) := dk_27 (dk_at dksX7_drops_1 4 rfl rfl)
theorem dX7_drops_28 : decode cX7_drops 28 = .ok (.bipush 50, 2) := dk_16 50 (dk_at dksX7_drops_1 5 rfl rfl)
theorem dX7_drops_30 : decode cX7_drops 30 = .ok (.iload_n 3, 1) := dk_29 (dk_at dksX7_drops_1 7 rfl rfl)
theorem dX7_drops_31 : decode cX7_drops 31 = .ok (.invokevirtual 356, 3) := dk_182 1 100 (dk_at dksX7_drops_1 8 rfl rfl)
theorem dX7_drops_34 : decode cX7_drops 34 = .ok (.return_, 1) := dk_177 (dk_at dksX7_drops_1 11 rfl rfl)
abbrev cX7_pass : ByteArray := prog_32_method_91_code
def yX7_pass : MethodName := ⟨RX7, "pass", "()I"⟩
def dkwX7_pass_0 : List UInt8 := [42, 42, 182, 1, 145, 182, 1, 136, 172]
abbrev dktX7_pass_0 : List UInt8 := dkwX7_pass_0 ++ []
theorem dksX7_pass_0 : cX7_pass.data.toList.drop 0 = dktX7_pass_0 := by decide +kernel
theorem dX7_pass_0 : decode cX7_pass 0 = .ok (.aload_n 0, 1) := dk_42 (dk_at dksX7_pass_0 0 rfl rfl)
theorem dX7_pass_1 : decode cX7_pass 1 = .ok (.aload_n 0, 1) := dk_42 (dk_at dksX7_pass_0 1 rfl rfl)
theorem dX7_pass_2 : decode cX7_pass 2 = .ok (.invokevirtual 401, 3) := dk_182 1 145 (dk_at dksX7_pass_0 2 rfl rfl)
theorem dX7_pass_5 : decode cX7_pass 5 = .ok (.invokevirtual 392, 3) := dk_182 1 136 (dk_at dksX7_pass_0 5 rfl rfl)
theorem dX7_pass_8 : decode cX7_pass 8 = .ok (.ireturn, 1) := dk_172 (dk_at dksX7_pass_0 8 rfl rfl)
abbrev cX7_passesKept : ByteArray := prog_32_method_87_code
def yX7_passesKept : MethodName := ⟨RX7, "passesKept", "()I"⟩
def dkwX7_passesKept_1 : List UInt8 := [182, 1, 129, 172]
abbrev dktX7_passesKept_1 : List UInt8 := dkwX7_passesKept_1 ++ []
def dkwX7_passesKept_0 : List UInt8 := [42, 180, 0, 28, 17, 1, 112, 46, 17, 3, 231, 160, 0, 6, 16, 253, 172, 42, 6, 182, 1, 123, 42]
abbrev dktX7_passesKept_0 : List UInt8 := dkwX7_passesKept_0 ++ dktX7_passesKept_1
theorem dksX7_passesKept_0 : cX7_passesKept.data.toList.drop 0 = dktX7_passesKept_0 := by decide +kernel
theorem dksX7_passesKept_1 : cX7_passesKept.data.toList.drop 23 = dktX7_passesKept_1 := dk_seg dksX7_passesKept_0 23 rfl rfl
theorem dX7_passesKept_0 : decode cX7_passesKept 0 = .ok (.aload_n 0, 1) := dk_42 (dk_at dksX7_passesKept_0 0 rfl rfl)
theorem dX7_passesKept_1 : decode cX7_passesKept 1 = .ok (.getfield 28, 3) := dk_180 0 28 (dk_at dksX7_passesKept_0 1 rfl rfl)
theorem dX7_passesKept_4 : decode cX7_passesKept 4 = .ok (.sipush 368, 3) := dk_17 1 112 (dk_at dksX7_passesKept_0 4 rfl rfl)
theorem dX7_passesKept_7 : decode cX7_passesKept 7 = .ok (.iaload, 1) := dk_46 (dk_at dksX7_passesKept_0 7 rfl rfl)
theorem dX7_passesKept_8 : decode cX7_passesKept 8 = .ok (.sipush 999, 3) := dk_17 3 231 (dk_at dksX7_passesKept_0 8 rfl rfl)
theorem dX7_passesKept_11 : decode cX7_passesKept 11 = .ok (.if_icmp .ne 6, 3) := dk_160 0 6 (dk_at dksX7_passesKept_0 11 rfl rfl)
theorem dX7_passesKept_14 : decode cX7_passesKept 14 = .ok (.bipush (-3), 2) := dk_16 253 (dk_at dksX7_passesKept_0 14 rfl rfl)
theorem dX7_passesKept_16 : decode cX7_passesKept 16 = .ok (.ireturn, 1) := dk_172 (dk_at dksX7_passesKept_0 16 rfl rfl)
theorem dX7_passesKept_17 : decode cX7_passesKept 17 = .ok (.aload_n 0, 1) := dk_42 (dk_at dksX7_passesKept_0 17 rfl rfl)
theorem dX7_passesKept_18 : decode cX7_passesKept 18 = .ok (.iconst 3, 1) := dk_6 (dk_at dksX7_passesKept_0 18 rfl rfl)
theorem dX7_passesKept_19 : decode cX7_passesKept 19 = .ok (.invokevirtual 379, 3) := dk_182 1 123 (dk_at dksX7_passesKept_0 19 rfl rfl)
theorem dX7_passesKept_22 : decode cX7_passesKept 22 = .ok (.aload_n 0, 1) := dk_42 (dk_at dksX7_passesKept_0 22 rfl rfl)
theorem dX7_passesKept_23 : decode cX7_passesKept 23 = .ok (.invokevirtual 385, 3) := dk_182 1 129 (dk_at dksX7_passesKept_1 0 rfl rfl)
theorem dX7_passesKept_26 : decode cX7_passesKept 26 = .ok (.ireturn, 1) := dk_172 (dk_at dksX7_passesKept_1 3 rfl rfl)
abbrev cX7_timePasses : ByteArray := prog_32_method_80_code
def yX7_timePasses : MethodName := ⟨RX7, "timePasses", "()I"⟩
def dkwX7_timePasses_4 : List UInt8 := [92, 46, 4, 96, 79, 27, 172]
abbrev dktX7_timePasses_4 : List UInt8 := dkwX7_timePasses_4 ++ []
def dkwX7_timePasses_3 : List UInt8 := [180, 0, 31, 28, 92, 47, 20, 1, 121, 109, 80, 132, 2, 1, 167, 255, 235, 42, 180, 0, 28, 17, 1, 112]
abbrev dktX7_timePasses_3 : List UInt8 := dkwX7_timePasses_3 ++ dktX7_timePasses_4
def dkwX7_timePasses_2 : List UInt8 := [96, 60, 132, 3, 1, 167, 255, 214, 132, 2, 1, 167, 255, 201, 3, 61, 28, 16, 100, 162, 0, 21, 42]
abbrev dktX7_timePasses_2 : List UInt8 := dkwX7_timePasses_2 ++ dktX7_timePasses_3
def dkwX7_timePasses_1 : List UInt8 := [29, 96, 184, 0, 142, 92, 46, 5, 108, 79, 27, 42, 180, 0, 28, 28, 16, 25, 29, 96, 184, 0, 142, 46]
abbrev dktX7_timePasses_1 : List UInt8 := dkwX7_timePasses_1 ++ dktX7_timePasses_2
def dkwX7_timePasses_0 : List UInt8 := [3, 60, 3, 61, 28, 7, 162, 0, 56, 3, 62, 29, 16, 25, 162, 0, 42, 42, 180, 0, 28, 28, 16, 25]
abbrev dktX7_timePasses_0 : List UInt8 := dkwX7_timePasses_0 ++ dktX7_timePasses_1
theorem dksX7_timePasses_0 : cX7_timePasses.data.toList.drop 0 = dktX7_timePasses_0 := by decide +kernel
theorem dksX7_timePasses_1 : cX7_timePasses.data.toList.drop 24 = dktX7_timePasses_1 := dk_seg dksX7_timePasses_0 24 rfl rfl
theorem dksX7_timePasses_2 : cX7_timePasses.data.toList.drop 48 = dktX7_timePasses_2 := dk_seg dksX7_timePasses_1 24 rfl rfl
theorem dksX7_timePasses_3 : cX7_timePasses.data.toList.drop 71 = dktX7_timePasses_3 := dk_seg dksX7_timePasses_2 23 rfl rfl
theorem dksX7_timePasses_4 : cX7_timePasses.data.toList.drop 95 = dktX7_timePasses_4 := dk_seg dksX7_timePasses_3 24 rfl rfl
theorem dX7_timePasses_0 : decode cX7_timePasses 0 = .ok (.iconst 0, 1) := dk_3 (dk_at dksX7_timePasses_0 0 rfl rfl)
theorem dX7_timePasses_1 : decode cX7_timePasses 1 = .ok (.istore_n 1, 1) := dk_60 (dk_at dksX7_timePasses_0 1 rfl rfl)
theorem dX7_timePasses_2 : decode cX7_timePasses 2 = .ok (.iconst 0, 1) := dk_3 (dk_at dksX7_timePasses_0 2 rfl rfl)
theorem dX7_timePasses_3 : decode cX7_timePasses 3 = .ok (.istore_n 2, 1) := dk_61 (dk_at dksX7_timePasses_0 3 rfl rfl)
theorem dX7_timePasses_4 : decode cX7_timePasses 4 = .ok (.iload_n 2, 1) := dk_28 (dk_at dksX7_timePasses_0 4 rfl rfl)
theorem dX7_timePasses_5 : decode cX7_timePasses 5 = .ok (.iconst 4, 1) := dk_7 (dk_at dksX7_timePasses_0 5 rfl rfl)
theorem dX7_timePasses_6 : decode cX7_timePasses 6 = .ok (.if_icmp .ge 56, 3) := dk_162 0 56 (dk_at dksX7_timePasses_0 6 rfl rfl)
theorem dX7_timePasses_9 : decode cX7_timePasses 9 = .ok (.iconst 0, 1) := dk_3 (dk_at dksX7_timePasses_0 9 rfl rfl)
theorem dX7_timePasses_10 : decode cX7_timePasses 10 = .ok (.istore_n 3, 1) := dk_62 (dk_at dksX7_timePasses_0 10 rfl rfl)
theorem dX7_timePasses_11 : decode cX7_timePasses 11 = .ok (.iload_n 3, 1) := dk_29 (dk_at dksX7_timePasses_0 11 rfl rfl)
theorem dX7_timePasses_12 : decode cX7_timePasses 12 = .ok (.bipush 25, 2) := dk_16 25 (dk_at dksX7_timePasses_0 12 rfl rfl)
theorem dX7_timePasses_14 : decode cX7_timePasses 14 = .ok (.if_icmp .ge 42, 3) := dk_162 0 42 (dk_at dksX7_timePasses_0 14 rfl rfl)
theorem dX7_timePasses_17 : decode cX7_timePasses 17 = .ok (.aload_n 0, 1) := dk_42 (dk_at dksX7_timePasses_0 17 rfl rfl)
theorem dX7_timePasses_18 : decode cX7_timePasses 18 = .ok (.getfield 28, 3) := dk_180 0 28 (dk_at dksX7_timePasses_0 18 rfl rfl)
theorem dX7_timePasses_21 : decode cX7_timePasses 21 = .ok (.iload_n 2, 1) := dk_28 (dk_at dksX7_timePasses_0 21 rfl rfl)
theorem dX7_timePasses_22 : decode cX7_timePasses 22 = .ok (.bipush 25, 2) := dk_16 25 (dk_at dksX7_timePasses_0 22 rfl rfl)
theorem dX7_timePasses_24 : decode cX7_timePasses 24 = .ok (.iload_n 3, 1) := dk_29 (dk_at dksX7_timePasses_1 0 rfl rfl)
theorem dX7_timePasses_25 : decode cX7_timePasses 25 = .ok (.iadd, 1) := dk_96 (dk_at dksX7_timePasses_1 1 rfl rfl)
theorem dX7_timePasses_26 : decode cX7_timePasses 26 = .ok (.invokestatic 142, 3) := dk_184 0 142 (dk_at dksX7_timePasses_1 2 rfl rfl)
theorem dX7_timePasses_29 : decode cX7_timePasses 29 = .ok (.dup2, 1) := dk_92 (dk_at dksX7_timePasses_1 5 rfl rfl)
theorem dX7_timePasses_30 : decode cX7_timePasses 30 = .ok (.iaload, 1) := dk_46 (dk_at dksX7_timePasses_1 6 rfl rfl)
theorem dX7_timePasses_31 : decode cX7_timePasses 31 = .ok (.iconst 2, 1) := dk_5 (dk_at dksX7_timePasses_1 7 rfl rfl)
theorem dX7_timePasses_32 : decode cX7_timePasses 32 = .ok (.idiv, 1) := dk_108 (dk_at dksX7_timePasses_1 8 rfl rfl)
theorem dX7_timePasses_33 : decode cX7_timePasses 33 = .ok (.iastore, 1) := dk_79 (dk_at dksX7_timePasses_1 9 rfl rfl)
theorem dX7_timePasses_34 : decode cX7_timePasses 34 = .ok (.iload_n 1, 1) := dk_27 (dk_at dksX7_timePasses_1 10 rfl rfl)
theorem dX7_timePasses_35 : decode cX7_timePasses 35 = .ok (.aload_n 0, 1) := dk_42 (dk_at dksX7_timePasses_1 11 rfl rfl)
theorem dX7_timePasses_36 : decode cX7_timePasses 36 = .ok (.getfield 28, 3) := dk_180 0 28 (dk_at dksX7_timePasses_1 12 rfl rfl)
theorem dX7_timePasses_39 : decode cX7_timePasses 39 = .ok (.iload_n 2, 1) := dk_28 (dk_at dksX7_timePasses_1 15 rfl rfl)
theorem dX7_timePasses_40 : decode cX7_timePasses 40 = .ok (.bipush 25, 2) := dk_16 25 (dk_at dksX7_timePasses_1 16 rfl rfl)
theorem dX7_timePasses_42 : decode cX7_timePasses 42 = .ok (.iload_n 3, 1) := dk_29 (dk_at dksX7_timePasses_1 18 rfl rfl)
theorem dX7_timePasses_43 : decode cX7_timePasses 43 = .ok (.iadd, 1) := dk_96 (dk_at dksX7_timePasses_1 19 rfl rfl)
theorem dX7_timePasses_44 : decode cX7_timePasses 44 = .ok (.invokestatic 142, 3) := dk_184 0 142 (dk_at dksX7_timePasses_1 20 rfl rfl)
theorem dX7_timePasses_47 : decode cX7_timePasses 47 = .ok (.iaload, 1) := dk_46 (dk_at dksX7_timePasses_1 23 rfl rfl)
theorem dX7_timePasses_48 : decode cX7_timePasses 48 = .ok (.iadd, 1) := dk_96 (dk_at dksX7_timePasses_2 0 rfl rfl)
theorem dX7_timePasses_49 : decode cX7_timePasses 49 = .ok (.istore_n 1, 1) := dk_60 (dk_at dksX7_timePasses_2 1 rfl rfl)
theorem dX7_timePasses_50 : decode cX7_timePasses 50 = .ok (.iinc 3 1, 3) := dk_132 3 1 (dk_at dksX7_timePasses_2 2 rfl rfl)
theorem dX7_timePasses_53 : decode cX7_timePasses 53 = .ok (.goto (-42), 3) := dk_167 255 214 (dk_at dksX7_timePasses_2 5 rfl rfl)
theorem dX7_timePasses_56 : decode cX7_timePasses 56 = .ok (.iinc 2 1, 3) := dk_132 2 1 (dk_at dksX7_timePasses_2 8 rfl rfl)
theorem dX7_timePasses_59 : decode cX7_timePasses 59 = .ok (.goto (-55), 3) := dk_167 255 201 (dk_at dksX7_timePasses_2 11 rfl rfl)
theorem dX7_timePasses_62 : decode cX7_timePasses 62 = .ok (.iconst 0, 1) := dk_3 (dk_at dksX7_timePasses_2 14 rfl rfl)
theorem dX7_timePasses_63 : decode cX7_timePasses 63 = .ok (.istore_n 2, 1) := dk_61 (dk_at dksX7_timePasses_2 15 rfl rfl)
theorem dX7_timePasses_64 : decode cX7_timePasses 64 = .ok (.iload_n 2, 1) := dk_28 (dk_at dksX7_timePasses_2 16 rfl rfl)
theorem dX7_timePasses_65 : decode cX7_timePasses 65 = .ok (.bipush 100, 2) := dk_16 100 (dk_at dksX7_timePasses_2 17 rfl rfl)
theorem dX7_timePasses_67 : decode cX7_timePasses 67 = .ok (.if_icmp .ge 21, 3) := dk_162 0 21 (dk_at dksX7_timePasses_2 19 rfl rfl)
theorem dX7_timePasses_70 : decode cX7_timePasses 70 = .ok (.aload_n 0, 1) := dk_42 (dk_at dksX7_timePasses_2 22 rfl rfl)
theorem dX7_timePasses_71 : decode cX7_timePasses 71 = .ok (.getfield 31, 3) := dk_180 0 31 (dk_at dksX7_timePasses_3 0 rfl rfl)
theorem dX7_timePasses_74 : decode cX7_timePasses 74 = .ok (.iload_n 2, 1) := dk_28 (dk_at dksX7_timePasses_3 3 rfl rfl)
theorem dX7_timePasses_75 : decode cX7_timePasses 75 = .ok (.dup2, 1) := dk_92 (dk_at dksX7_timePasses_3 4 rfl rfl)
theorem dX7_timePasses_76 : decode cX7_timePasses 76 = .ok (.laload, 1) := dk_47 (dk_at dksX7_timePasses_3 5 rfl rfl)
theorem dX7_timePasses_77 : decode cX7_timePasses 77 = .ok (.ldc2_w 377, 3) := dk_20 1 121 (dk_at dksX7_timePasses_3 6 rfl rfl)
theorem dX7_timePasses_80 : decode cX7_timePasses 80 = .ok (.ldiv, 1) := dk_109 (dk_at dksX7_timePasses_3 9 rfl rfl)
theorem dX7_timePasses_81 : decode cX7_timePasses 81 = .ok (.lastore, 1) := dk_80 (dk_at dksX7_timePasses_3 10 rfl rfl)
theorem dX7_timePasses_82 : decode cX7_timePasses 82 = .ok (.iinc 2 1, 3) := dk_132 2 1 (dk_at dksX7_timePasses_3 11 rfl rfl)
theorem dX7_timePasses_85 : decode cX7_timePasses 85 = .ok (.goto (-21), 3) := dk_167 255 235 (dk_at dksX7_timePasses_3 14 rfl rfl)
theorem dX7_timePasses_88 : decode cX7_timePasses 88 = .ok (.aload_n 0, 1) := dk_42 (dk_at dksX7_timePasses_3 17 rfl rfl)
theorem dX7_timePasses_89 : decode cX7_timePasses 89 = .ok (.getfield 28, 3) := dk_180 0 28 (dk_at dksX7_timePasses_3 18 rfl rfl)
theorem dX7_timePasses_92 : decode cX7_timePasses 92 = .ok (.sipush 368, 3) := dk_17 1 112 (dk_at dksX7_timePasses_3 21 rfl rfl)
theorem dX7_timePasses_95 : decode cX7_timePasses 95 = .ok (.dup2, 1) := dk_92 (dk_at dksX7_timePasses_4 0 rfl rfl)
theorem dX7_timePasses_96 : decode cX7_timePasses 96 = .ok (.iaload, 1) := dk_46 (dk_at dksX7_timePasses_4 1 rfl rfl)
theorem dX7_timePasses_97 : decode cX7_timePasses 97 = .ok (.iconst 1, 1) := dk_4 (dk_at dksX7_timePasses_4 2 rfl rfl)
theorem dX7_timePasses_98 : decode cX7_timePasses 98 = .ok (.iadd, 1) := dk_96 (dk_at dksX7_timePasses_4 3 rfl rfl)
theorem dX7_timePasses_99 : decode cX7_timePasses 99 = .ok (.iastore, 1) := dk_79 (dk_at dksX7_timePasses_4 4 rfl rfl)
theorem dX7_timePasses_100 : decode cX7_timePasses 100 = .ok (.iload_n 1, 1) := dk_27 (dk_at dksX7_timePasses_4 5 rfl rfl)
theorem dX7_timePasses_101 : decode cX7_timePasses 101 = .ok (.ireturn, 1) := dk_172 (dk_at dksX7_timePasses_4 6 rfl rfl)
abbrev cX7_misses : ByteArray := prog_32_method_94_code
def yX7_misses : MethodName := ⟨RX7, "misses", "(II)I"⟩
def dkwX7_misses_1 : List UInt8 := [182, 1, 154, 172]
abbrev dktX7_misses_1 : List UInt8 := dkwX7_misses_1 ++ []
def dkwX7_misses_0 : List UInt8 := [27, 184, 0, 152, 153, 0, 10, 28, 184, 1, 148, 154, 0, 5, 2, 172, 42, 27, 182, 1, 151, 42, 27, 28]
abbrev dktX7_misses_0 : List UInt8 := dkwX7_misses_0 ++ dktX7_misses_1
theorem dksX7_misses_0 : cX7_misses.data.toList.drop 0 = dktX7_misses_0 := by decide +kernel
theorem dksX7_misses_1 : cX7_misses.data.toList.drop 24 = dktX7_misses_1 := dk_seg dksX7_misses_0 24 rfl rfl
theorem dX7_misses_0 : decode cX7_misses 0 = .ok (.iload_n 1, 1) := dk_27 (dk_at dksX7_misses_0 0 rfl rfl)
theorem dX7_misses_1 : decode cX7_misses 1 = .ok (.invokestatic 152, 3) := dk_184 0 152 (dk_at dksX7_misses_0 1 rfl rfl)
theorem dX7_misses_4 : decode cX7_misses 4 = .ok (.ifCond .eq 10, 3) := dk_153 0 10 (dk_at dksX7_misses_0 4 rfl rfl)
theorem dX7_misses_7 : decode cX7_misses 7 = .ok (.iload_n 2, 1) := dk_28 (dk_at dksX7_misses_0 7 rfl rfl)
theorem dX7_misses_8 : decode cX7_misses 8 = .ok (.invokestatic 404, 3) := dk_184 1 148 (dk_at dksX7_misses_0 8 rfl rfl)
theorem dX7_misses_11 : decode cX7_misses 11 = .ok (.ifCond .ne 5, 3) := dk_154 0 5 (dk_at dksX7_misses_0 11 rfl rfl)
theorem dX7_misses_14 : decode cX7_misses 14 = .ok (.iconst (-1), 1) := dk_2 (dk_at dksX7_misses_0 14 rfl rfl)
theorem dX7_misses_15 : decode cX7_misses 15 = .ok (.ireturn, 1) := dk_172 (dk_at dksX7_misses_0 15 rfl rfl)
theorem dX7_misses_16 : decode cX7_misses 16 = .ok (.aload_n 0, 1) := dk_42 (dk_at dksX7_misses_0 16 rfl rfl)
theorem dX7_misses_17 : decode cX7_misses 17 = .ok (.iload_n 1, 1) := dk_27 (dk_at dksX7_misses_0 17 rfl rfl)
theorem dX7_misses_18 : decode cX7_misses 18 = .ok (.invokevirtual 407, 3) := dk_182 1 151 (dk_at dksX7_misses_0 18 rfl rfl)
theorem dX7_misses_21 : decode cX7_misses 21 = .ok (.aload_n 0, 1) := dk_42 (dk_at dksX7_misses_0 21 rfl rfl)
theorem dX7_misses_22 : decode cX7_misses 22 = .ok (.iload_n 1, 1) := dk_27 (dk_at dksX7_misses_0 22 rfl rfl)
theorem dX7_misses_23 : decode cX7_misses 23 = .ok (.iload_n 2, 1) := dk_28 (dk_at dksX7_misses_0 23 rfl rfl)
theorem dX7_misses_24 : decode cX7_misses 24 = .ok (.invokevirtual 410, 3) := dk_182 1 154 (dk_at dksX7_misses_1 0 rfl rfl)
theorem dX7_misses_27 : decode cX7_misses 27 = .ok (.ireturn, 1) := dk_172 (dk_at dksX7_misses_1 3 rfl rfl)
abbrev cX7_isSize : ByteArray := prog_32_method_9_code
def yX7_isSize : MethodName := ⟨RX7, "isSize", "(I)Z"⟩
def dkwX7_isSize_0 : List UInt8 := [26, 3, 16, 24, 184, 0, 18, 172]
abbrev dktX7_isSize_0 : List UInt8 := dkwX7_isSize_0 ++ []
theorem dksX7_isSize_0 : cX7_isSize.data.toList.drop 0 = dktX7_isSize_0 := by decide +kernel
theorem dX7_isSize_0 : decode cX7_isSize 0 = .ok (.iload_n 0, 1) := dk_26 (dk_at dksX7_isSize_0 0 rfl rfl)
theorem dX7_isSize_1 : decode cX7_isSize 1 = .ok (.iconst 0, 1) := dk_3 (dk_at dksX7_isSize_0 1 rfl rfl)
theorem dX7_isSize_2 : decode cX7_isSize 2 = .ok (.bipush 24, 2) := dk_16 24 (dk_at dksX7_isSize_0 2 rfl rfl)
theorem dX7_isSize_4 : decode cX7_isSize 4 = .ok (.invokestatic 18, 3) := dk_184 0 18 (dk_at dksX7_isSize_0 4 rfl rfl)
theorem dX7_isSize_7 : decode cX7_isSize 7 = .ok (.ireturn, 1) := dk_172 (dk_at dksX7_isSize_0 7 rfl rfl)
abbrev cX7_laysMisses : ByteArray := prog_32_method_93_code
def yX7_laysMisses : MethodName := ⟨RX7, "laysMisses", "(I)V"⟩
def dkwX7_laysMisses_2 : List UInt8 := [29, 96, 184, 0, 142, 46, 96, 61, 132, 3, 255, 167, 255, 213, 177]
abbrev dktX7_laysMisses_2 : List UInt8 := dkwX7_laysMisses_2 ++ []
def dkwX7_laysMisses_1 : List UInt8 := [16, 25, 27, 104, 29, 96, 28, 79, 28, 29, 154, 0, 7, 3, 167, 0, 16, 42, 180, 0, 28, 27, 16, 25]
abbrev dktX7_laysMisses_1 : List UInt8 := dkwX7_laysMisses_1 ++ dktX7_laysMisses_2
def dkwX7_laysMisses_0 : List UInt8 := [42, 180, 0, 28, 27, 16, 25, 184, 0, 142, 46, 61, 16, 24, 62, 29, 155, 0, 45, 42, 180, 0, 88]
abbrev dktX7_laysMisses_0 : List UInt8 := dkwX7_laysMisses_0 ++ dktX7_laysMisses_1
theorem dksX7_laysMisses_0 : cX7_laysMisses.data.toList.drop 0 = dktX7_laysMisses_0 := by decide +kernel
theorem dksX7_laysMisses_1 : cX7_laysMisses.data.toList.drop 23 = dktX7_laysMisses_1 := dk_seg dksX7_laysMisses_0 23 rfl rfl
theorem dksX7_laysMisses_2 : cX7_laysMisses.data.toList.drop 47 = dktX7_laysMisses_2 := dk_seg dksX7_laysMisses_1 24 rfl rfl
theorem dX7_laysMisses_0 : decode cX7_laysMisses 0 = .ok (.aload_n 0, 1) := dk_42 (dk_at dksX7_laysMisses_0 0 rfl rfl)
theorem dX7_laysMisses_1 : decode cX7_laysMisses 1 = .ok (.getfield 28, 3) := dk_180 0 28 (dk_at dksX7_laysMisses_0 1 rfl rfl)
theorem dX7_laysMisses_4 : decode cX7_laysMisses 4 = .ok (.iload_n 1, 1) := dk_27 (dk_at dksX7_laysMisses_0 4 rfl rfl)
theorem dX7_laysMisses_5 : decode cX7_laysMisses 5 = .ok (.bipush 25, 2) := dk_16 25 (dk_at dksX7_laysMisses_0 5 rfl rfl)
theorem dX7_laysMisses_7 : decode cX7_laysMisses 7 = .ok (.invokestatic 142, 3) := dk_184 0 142 (dk_at dksX7_laysMisses_0 7 rfl rfl)
theorem dX7_laysMisses_10 : decode cX7_laysMisses 10 = .ok (.iaload, 1) := dk_46 (dk_at dksX7_laysMisses_0 10 rfl rfl)
theorem dX7_laysMisses_11 : decode cX7_laysMisses 11 = .ok (.istore_n 2, 1) := dk_61 (dk_at dksX7_laysMisses_0 11 rfl rfl)
theorem dX7_laysMisses_12 : decode cX7_laysMisses 12 = .ok (.bipush 24, 2) := dk_16 24 (dk_at dksX7_laysMisses_0 12 rfl rfl)
theorem dX7_laysMisses_14 : decode cX7_laysMisses 14 = .ok (.istore_n 3, 1) := dk_62 (dk_at dksX7_laysMisses_0 14 rfl rfl)
theorem dX7_laysMisses_15 : decode cX7_laysMisses 15 = .ok (.iload_n 3, 1) := dk_29 (dk_at dksX7_laysMisses_0 15 rfl rfl)
theorem dX7_laysMisses_16 : decode cX7_laysMisses 16 = .ok (.ifCond .lt 45, 3) := dk_155 0 45 (dk_at dksX7_laysMisses_0 16 rfl rfl)
theorem dX7_laysMisses_19 : decode cX7_laysMisses 19 = .ok (.aload_n 0, 1) := dk_42 (dk_at dksX7_laysMisses_0 19 rfl rfl)
theorem dX7_laysMisses_20 : decode cX7_laysMisses 20 = .ok (.getfield 88, 3) := dk_180 0 88 (dk_at dksX7_laysMisses_0 20 rfl rfl)
theorem dX7_laysMisses_23 : decode cX7_laysMisses 23 = .ok (.bipush 25, 2) := dk_16 25 (dk_at dksX7_laysMisses_1 0 rfl rfl)
theorem dX7_laysMisses_25 : decode cX7_laysMisses 25 = .ok (.iload_n 1, 1) := dk_27 (dk_at dksX7_laysMisses_1 2 rfl rfl)
theorem dX7_laysMisses_26 : decode cX7_laysMisses 26 = .ok (.imul, 1) := dk_104 (dk_at dksX7_laysMisses_1 3 rfl rfl)
theorem dX7_laysMisses_27 : decode cX7_laysMisses 27 = .ok (.iload_n 3, 1) := dk_29 (dk_at dksX7_laysMisses_1 4 rfl rfl)
theorem dX7_laysMisses_28 : decode cX7_laysMisses 28 = .ok (.iadd, 1) := dk_96 (dk_at dksX7_laysMisses_1 5 rfl rfl)
theorem dX7_laysMisses_29 : decode cX7_laysMisses 29 = .ok (.iload_n 2, 1) := dk_28 (dk_at dksX7_laysMisses_1 6 rfl rfl)
theorem dX7_laysMisses_30 : decode cX7_laysMisses 30 = .ok (.iastore, 1) := dk_79 (dk_at dksX7_laysMisses_1 7 rfl rfl)
theorem dX7_laysMisses_31 : decode cX7_laysMisses 31 = .ok (.iload_n 2, 1) := dk_28 (dk_at dksX7_laysMisses_1 8 rfl rfl)
theorem dX7_laysMisses_32 : decode cX7_laysMisses 32 = .ok (.iload_n 3, 1) := dk_29 (dk_at dksX7_laysMisses_1 9 rfl rfl)
theorem dX7_laysMisses_33 : decode cX7_laysMisses 33 = .ok (.ifCond .ne 7, 3) := dk_154 0 7 (dk_at dksX7_laysMisses_1 10 rfl rfl)
theorem dX7_laysMisses_36 : decode cX7_laysMisses 36 = .ok (.iconst 0, 1) := dk_3 (dk_at dksX7_laysMisses_1 13 rfl rfl)
theorem dX7_laysMisses_37 : decode cX7_laysMisses 37 = .ok (.goto 16, 3) := dk_167 0 16 (dk_at dksX7_laysMisses_1 14 rfl rfl)
theorem dX7_laysMisses_40 : decode cX7_laysMisses 40 = .ok (.aload_n 0, 1) := dk_42 (dk_at dksX7_laysMisses_1 17 rfl rfl)
theorem dX7_laysMisses_41 : decode cX7_laysMisses 41 = .ok (.getfield 28, 3) := dk_180 0 28 (dk_at dksX7_laysMisses_1 18 rfl rfl)
theorem dX7_laysMisses_44 : decode cX7_laysMisses 44 = .ok (.iload_n 1, 1) := dk_27 (dk_at dksX7_laysMisses_1 21 rfl rfl)
theorem dX7_laysMisses_45 : decode cX7_laysMisses 45 = .ok (.bipush 25, 2) := dk_16 25 (dk_at dksX7_laysMisses_1 22 rfl rfl)
theorem dX7_laysMisses_47 : decode cX7_laysMisses 47 = .ok (.iload_n 3, 1) := dk_29 (dk_at dksX7_laysMisses_2 0 rfl rfl)
theorem dX7_laysMisses_48 : decode cX7_laysMisses 48 = .ok (.iadd, 1) := dk_96 (dk_at dksX7_laysMisses_2 1 rfl rfl)
theorem dX7_laysMisses_49 : decode cX7_laysMisses 49 = .ok (.invokestatic 142, 3) := dk_184 0 142 (dk_at dksX7_laysMisses_2 2 rfl rfl)
theorem dX7_laysMisses_52 : decode cX7_laysMisses 52 = .ok (.iaload, 1) := dk_46 (dk_at dksX7_laysMisses_2 5 rfl rfl)
theorem dX7_laysMisses_53 : decode cX7_laysMisses 53 = .ok (.iadd, 1) := dk_96 (dk_at dksX7_laysMisses_2 6 rfl rfl)
theorem dX7_laysMisses_54 : decode cX7_laysMisses 54 = .ok (.istore_n 2, 1) := dk_61 (dk_at dksX7_laysMisses_2 7 rfl rfl)
theorem dX7_laysMisses_55 : decode cX7_laysMisses 55 = .ok (.iinc 3 (-1), 3) := dk_132 3 255 (dk_at dksX7_laysMisses_2 8 rfl rfl)
theorem dX7_laysMisses_58 : decode cX7_laysMisses 58 = .ok (.goto (-43), 3) := dk_167 255 213 (dk_at dksX7_laysMisses_2 11 rfl rfl)
theorem dX7_laysMisses_61 : decode cX7_laysMisses 61 = .ok (.return_, 1) := dk_177 (dk_at dksX7_laysMisses_2 14 rfl rfl)
abbrev cX7_missAt : ByteArray := prog_32_method_92_code
def yX7_missAt : MethodName := ⟨RX7, "missAt", "(II)I"⟩
def dkwX7_missAt_0 : List UInt8 := [42, 180, 0, 88, 16, 25, 27, 104, 28, 96, 46, 172]
abbrev dktX7_missAt_0 : List UInt8 := dkwX7_missAt_0 ++ []
theorem dksX7_missAt_0 : cX7_missAt.data.toList.drop 0 = dktX7_missAt_0 := by decide +kernel
theorem dX7_missAt_0 : decode cX7_missAt 0 = .ok (.aload_n 0, 1) := dk_42 (dk_at dksX7_missAt_0 0 rfl rfl)
theorem dX7_missAt_1 : decode cX7_missAt 1 = .ok (.getfield 88, 3) := dk_180 0 88 (dk_at dksX7_missAt_0 1 rfl rfl)
theorem dX7_missAt_4 : decode cX7_missAt 4 = .ok (.bipush 25, 2) := dk_16 25 (dk_at dksX7_missAt_0 4 rfl rfl)
theorem dX7_missAt_6 : decode cX7_missAt 6 = .ok (.iload_n 1, 1) := dk_27 (dk_at dksX7_missAt_0 6 rfl rfl)
theorem dX7_missAt_7 : decode cX7_missAt 7 = .ok (.imul, 1) := dk_104 (dk_at dksX7_missAt_0 7 rfl rfl)
theorem dX7_missAt_8 : decode cX7_missAt 8 = .ok (.iload_n 2, 1) := dk_28 (dk_at dksX7_missAt_0 8 rfl rfl)
theorem dX7_missAt_9 : decode cX7_missAt 9 = .ok (.iadd, 1) := dk_96 (dk_at dksX7_missAt_0 9 rfl rfl)
theorem dX7_missAt_10 : decode cX7_missAt 10 = .ok (.iaload, 1) := dk_46 (dk_at dksX7_missAt_0 10 rfl rfl)
theorem dX7_missAt_11 : decode cX7_missAt 11 = .ok (.ireturn, 1) := dk_172 (dk_at dksX7_missAt_0 11 rfl rfl)
abbrev cX7_hull : ByteArray := prog_32_method_96_code
def yX7_hull : MethodName := ⟨RX7, "hull", "(II)J"⟩
def dkwX7_hull_4 : List UInt8 := [132, 6, 1, 167, 255, 209, 132, 5, 1, 167, 255, 192, 33, 173]
abbrev dktX7_hull_4 : List UInt8 := dkwX7_hull_4 ++ []
def dkwX7_hull_3 : List UInt8 := [21, 6, 21, 5, 100, 133, 109, 55, 7, 22, 7, 33, 148, 156, 0, 8, 22, 7, 167, 0, 4, 33, 66]
abbrev dktX7_hull_3 : List UInt8 := dkwX7_hull_3 ++ dktX7_hull_4
def dkwX7_hull_2 : List UInt8 := [54, 6, 21, 6, 16, 24, 163, 0, 46, 20, 1, 159, 42, 27, 21, 5, 21, 6, 28, 182, 1, 161, 105]
abbrev dktX7_hull_2 : List UInt8 := dkwX7_hull_2 ++ dktX7_hull_3
def dkwX7_hull_1 : List UInt8 := [20, 1, 159, 42, 27, 28, 182, 1, 154, 133, 105, 66, 3, 54, 5, 21, 5, 28, 162, 0, 64, 28, 4, 96]
abbrev dktX7_hull_1 : List UInt8 := dkwX7_hull_1 ++ dktX7_hull_2
def dkwX7_hull_0 : List UInt8 := [27, 184, 0, 152, 153, 0, 10, 28, 184, 1, 148, 154, 0, 7, 20, 1, 157, 173, 42, 27, 182, 1, 151]
abbrev dktX7_hull_0 : List UInt8 := dkwX7_hull_0 ++ dktX7_hull_1
theorem dksX7_hull_0 : cX7_hull.data.toList.drop 0 = dktX7_hull_0 := by decide +kernel
theorem dksX7_hull_1 : cX7_hull.data.toList.drop 23 = dktX7_hull_1 := dk_seg dksX7_hull_0 23 rfl rfl
theorem dksX7_hull_2 : cX7_hull.data.toList.drop 47 = dktX7_hull_2 := dk_seg dksX7_hull_1 24 rfl rfl
theorem dksX7_hull_3 : cX7_hull.data.toList.drop 70 = dktX7_hull_3 := dk_seg dksX7_hull_2 23 rfl rfl
theorem dksX7_hull_4 : cX7_hull.data.toList.drop 93 = dktX7_hull_4 := dk_seg dksX7_hull_3 23 rfl rfl
theorem dX7_hull_0 : decode cX7_hull 0 = .ok (.iload_n 1, 1) := dk_27 (dk_at dksX7_hull_0 0 rfl rfl)
theorem dX7_hull_1 : decode cX7_hull 1 = .ok (.invokestatic 152, 3) := dk_184 0 152 (dk_at dksX7_hull_0 1 rfl rfl)
theorem dX7_hull_4 : decode cX7_hull 4 = .ok (.ifCond .eq 10, 3) := dk_153 0 10 (dk_at dksX7_hull_0 4 rfl rfl)
theorem dX7_hull_7 : decode cX7_hull 7 = .ok (.iload_n 2, 1) := dk_28 (dk_at dksX7_hull_0 7 rfl rfl)
theorem dX7_hull_8 : decode cX7_hull 8 = .ok (.invokestatic 404, 3) := dk_184 1 148 (dk_at dksX7_hull_0 8 rfl rfl)
theorem dX7_hull_11 : decode cX7_hull 11 = .ok (.ifCond .ne 7, 3) := dk_154 0 7 (dk_at dksX7_hull_0 11 rfl rfl)
theorem dX7_hull_14 : decode cX7_hull 14 = .ok (.ldc2_w 413, 3) := dk_20 1 157 (dk_at dksX7_hull_0 14 rfl rfl)
theorem dX7_hull_17 : decode cX7_hull 17 = .ok (.lreturn, 1) := dk_173 (dk_at dksX7_hull_0 17 rfl rfl)
theorem dX7_hull_18 : decode cX7_hull 18 = .ok (.aload_n 0, 1) := dk_42 (dk_at dksX7_hull_0 18 rfl rfl)
theorem dX7_hull_19 : decode cX7_hull 19 = .ok (.iload_n 1, 1) := dk_27 (dk_at dksX7_hull_0 19 rfl rfl)
theorem dX7_hull_20 : decode cX7_hull 20 = .ok (.invokevirtual 407, 3) := dk_182 1 151 (dk_at dksX7_hull_0 20 rfl rfl)
theorem dX7_hull_23 : decode cX7_hull 23 = .ok (.ldc2_w 415, 3) := dk_20 1 159 (dk_at dksX7_hull_1 0 rfl rfl)
theorem dX7_hull_26 : decode cX7_hull 26 = .ok (.aload_n 0, 1) := dk_42 (dk_at dksX7_hull_1 3 rfl rfl)
theorem dX7_hull_27 : decode cX7_hull 27 = .ok (.iload_n 1, 1) := dk_27 (dk_at dksX7_hull_1 4 rfl rfl)
theorem dX7_hull_28 : decode cX7_hull 28 = .ok (.iload_n 2, 1) := dk_28 (dk_at dksX7_hull_1 5 rfl rfl)
theorem dX7_hull_29 : decode cX7_hull 29 = .ok (.invokevirtual 410, 3) := dk_182 1 154 (dk_at dksX7_hull_1 6 rfl rfl)
theorem dX7_hull_32 : decode cX7_hull 32 = .ok (.i2l, 1) := dk_133 (dk_at dksX7_hull_1 9 rfl rfl)
theorem dX7_hull_33 : decode cX7_hull 33 = .ok (.lmul, 1) := dk_105 (dk_at dksX7_hull_1 10 rfl rfl)
theorem dX7_hull_34 : decode cX7_hull 34 = .ok (.lstore_n 3, 1) := dk_66 (dk_at dksX7_hull_1 11 rfl rfl)
theorem dX7_hull_35 : decode cX7_hull 35 = .ok (.iconst 0, 1) := dk_3 (dk_at dksX7_hull_1 12 rfl rfl)
theorem dX7_hull_36 : decode cX7_hull 36 = .ok (.istore 5, 2) := dk_54 5 (dk_at dksX7_hull_1 13 rfl rfl)
theorem dX7_hull_38 : decode cX7_hull 38 = .ok (.iload 5, 2) := dk_21 5 (dk_at dksX7_hull_1 15 rfl rfl)
theorem dX7_hull_40 : decode cX7_hull 40 = .ok (.iload_n 2, 1) := dk_28 (dk_at dksX7_hull_1 17 rfl rfl)
theorem dX7_hull_41 : decode cX7_hull 41 = .ok (.if_icmp .ge 64, 3) := dk_162 0 64 (dk_at dksX7_hull_1 18 rfl rfl)
theorem dX7_hull_44 : decode cX7_hull 44 = .ok (.iload_n 2, 1) := dk_28 (dk_at dksX7_hull_1 21 rfl rfl)
theorem dX7_hull_45 : decode cX7_hull 45 = .ok (.iconst 1, 1) := dk_4 (dk_at dksX7_hull_1 22 rfl rfl)
theorem dX7_hull_46 : decode cX7_hull 46 = .ok (.iadd, 1) := dk_96 (dk_at dksX7_hull_1 23 rfl rfl)
theorem dX7_hull_47 : decode cX7_hull 47 = .ok (.istore 6, 2) := dk_54 6 (dk_at dksX7_hull_2 0 rfl rfl)
theorem dX7_hull_49 : decode cX7_hull 49 = .ok (.iload 6, 2) := dk_21 6 (dk_at dksX7_hull_2 2 rfl rfl)
theorem dX7_hull_51 : decode cX7_hull 51 = .ok (.bipush 24, 2) := dk_16 24 (dk_at dksX7_hull_2 4 rfl rfl)
theorem dX7_hull_53 : decode cX7_hull 53 = .ok (.if_icmp .gt 46, 3) := dk_163 0 46 (dk_at dksX7_hull_2 6 rfl rfl)
theorem dX7_hull_56 : decode cX7_hull 56 = .ok (.ldc2_w 415, 3) := dk_20 1 159 (dk_at dksX7_hull_2 9 rfl rfl)
theorem dX7_hull_59 : decode cX7_hull 59 = .ok (.aload_n 0, 1) := dk_42 (dk_at dksX7_hull_2 12 rfl rfl)
theorem dX7_hull_60 : decode cX7_hull 60 = .ok (.iload_n 1, 1) := dk_27 (dk_at dksX7_hull_2 13 rfl rfl)
theorem dX7_hull_61 : decode cX7_hull 61 = .ok (.iload 5, 2) := dk_21 5 (dk_at dksX7_hull_2 14 rfl rfl)
theorem dX7_hull_63 : decode cX7_hull 63 = .ok (.iload 6, 2) := dk_21 6 (dk_at dksX7_hull_2 16 rfl rfl)
theorem dX7_hull_65 : decode cX7_hull 65 = .ok (.iload_n 2, 1) := dk_28 (dk_at dksX7_hull_2 18 rfl rfl)
theorem dX7_hull_66 : decode cX7_hull 66 = .ok (.invokevirtual 417, 3) := dk_182 1 161 (dk_at dksX7_hull_2 19 rfl rfl)
theorem dX7_hull_69 : decode cX7_hull 69 = .ok (.lmul, 1) := dk_105 (dk_at dksX7_hull_2 22 rfl rfl)
theorem dX7_hull_70 : decode cX7_hull 70 = .ok (.iload 6, 2) := dk_21 6 (dk_at dksX7_hull_3 0 rfl rfl)
theorem dX7_hull_72 : decode cX7_hull 72 = .ok (.iload 5, 2) := dk_21 5 (dk_at dksX7_hull_3 2 rfl rfl)
theorem dX7_hull_74 : decode cX7_hull 74 = .ok (.isub, 1) := dk_100 (dk_at dksX7_hull_3 4 rfl rfl)
theorem dX7_hull_75 : decode cX7_hull 75 = .ok (.i2l, 1) := dk_133 (dk_at dksX7_hull_3 5 rfl rfl)
theorem dX7_hull_76 : decode cX7_hull 76 = .ok (.ldiv, 1) := dk_109 (dk_at dksX7_hull_3 6 rfl rfl)
theorem dX7_hull_77 : decode cX7_hull 77 = .ok (.lstore 7, 2) := dk_55 7 (dk_at dksX7_hull_3 7 rfl rfl)
theorem dX7_hull_79 : decode cX7_hull 79 = .ok (.lload 7, 2) := dk_22 7 (dk_at dksX7_hull_3 9 rfl rfl)
theorem dX7_hull_81 : decode cX7_hull 81 = .ok (.lload_n 3, 1) := dk_33 (dk_at dksX7_hull_3 11 rfl rfl)
theorem dX7_hull_82 : decode cX7_hull 82 = .ok (.lcmp, 1) := dk_148 (dk_at dksX7_hull_3 12 rfl rfl)
theorem dX7_hull_83 : decode cX7_hull 83 = .ok (.ifCond .ge 8, 3) := dk_156 0 8 (dk_at dksX7_hull_3 13 rfl rfl)
theorem dX7_hull_86 : decode cX7_hull 86 = .ok (.lload 7, 2) := dk_22 7 (dk_at dksX7_hull_3 16 rfl rfl)
theorem dX7_hull_88 : decode cX7_hull 88 = .ok (.goto 4, 3) := dk_167 0 4 (dk_at dksX7_hull_3 18 rfl rfl)
theorem dX7_hull_91 : decode cX7_hull 91 = .ok (.lload_n 3, 1) := dk_33 (dk_at dksX7_hull_3 21 rfl rfl)
theorem dX7_hull_92 : decode cX7_hull 92 = .ok (.lstore_n 3, 1) := dk_66 (dk_at dksX7_hull_3 22 rfl rfl)
theorem dX7_hull_93 : decode cX7_hull 93 = .ok (.iinc 6 1, 3) := dk_132 6 1 (dk_at dksX7_hull_4 0 rfl rfl)
theorem dX7_hull_96 : decode cX7_hull 96 = .ok (.goto (-47), 3) := dk_167 255 209 (dk_at dksX7_hull_4 3 rfl rfl)
theorem dX7_hull_99 : decode cX7_hull 99 = .ok (.iinc 5 1, 3) := dk_132 5 1 (dk_at dksX7_hull_4 6 rfl rfl)
theorem dX7_hull_102 : decode cX7_hull 102 = .ok (.goto (-64), 3) := dk_167 255 192 (dk_at dksX7_hull_4 9 rfl rfl)
theorem dX7_hull_105 : decode cX7_hull 105 = .ok (.lload_n 3, 1) := dk_33 (dk_at dksX7_hull_4 12 rfl rfl)
theorem dX7_hull_106 : decode cX7_hull 106 = .ok (.lreturn, 1) := dk_173 (dk_at dksX7_hull_4 13 rfl rfl)
abbrev cX7_lineAt : ByteArray := prog_32_method_95_code
def yX7_lineAt : MethodName := ⟨RX7, "lineAt", "(IIII)J"⟩
def dkwX7_lineAt_1 : List UInt8 := [133, 105, 97, 173]
abbrev dktX7_lineAt_1 : List UInt8 := dkwX7_lineAt_1 ++ []
def dkwX7_lineAt_0 : List UInt8 := [42, 27, 28, 182, 1, 154, 133, 29, 21, 4, 100, 133, 105, 42, 27, 29, 182, 1, 154, 133, 21, 4, 28, 100]
abbrev dktX7_lineAt_0 : List UInt8 := dkwX7_lineAt_0 ++ dktX7_lineAt_1
theorem dksX7_lineAt_0 : cX7_lineAt.data.toList.drop 0 = dktX7_lineAt_0 := by decide +kernel
theorem dksX7_lineAt_1 : cX7_lineAt.data.toList.drop 24 = dktX7_lineAt_1 := dk_seg dksX7_lineAt_0 24 rfl rfl
theorem dX7_lineAt_0 : decode cX7_lineAt 0 = .ok (.aload_n 0, 1) := dk_42 (dk_at dksX7_lineAt_0 0 rfl rfl)
theorem dX7_lineAt_1 : decode cX7_lineAt 1 = .ok (.iload_n 1, 1) := dk_27 (dk_at dksX7_lineAt_0 1 rfl rfl)
theorem dX7_lineAt_2 : decode cX7_lineAt 2 = .ok (.iload_n 2, 1) := dk_28 (dk_at dksX7_lineAt_0 2 rfl rfl)
theorem dX7_lineAt_3 : decode cX7_lineAt 3 = .ok (.invokevirtual 410, 3) := dk_182 1 154 (dk_at dksX7_lineAt_0 3 rfl rfl)
theorem dX7_lineAt_6 : decode cX7_lineAt 6 = .ok (.i2l, 1) := dk_133 (dk_at dksX7_lineAt_0 6 rfl rfl)
theorem dX7_lineAt_7 : decode cX7_lineAt 7 = .ok (.iload_n 3, 1) := dk_29 (dk_at dksX7_lineAt_0 7 rfl rfl)
theorem dX7_lineAt_8 : decode cX7_lineAt 8 = .ok (.iload 4, 2) := dk_21 4 (dk_at dksX7_lineAt_0 8 rfl rfl)
theorem dX7_lineAt_10 : decode cX7_lineAt 10 = .ok (.isub, 1) := dk_100 (dk_at dksX7_lineAt_0 10 rfl rfl)
theorem dX7_lineAt_11 : decode cX7_lineAt 11 = .ok (.i2l, 1) := dk_133 (dk_at dksX7_lineAt_0 11 rfl rfl)
theorem dX7_lineAt_12 : decode cX7_lineAt 12 = .ok (.lmul, 1) := dk_105 (dk_at dksX7_lineAt_0 12 rfl rfl)
theorem dX7_lineAt_13 : decode cX7_lineAt 13 = .ok (.aload_n 0, 1) := dk_42 (dk_at dksX7_lineAt_0 13 rfl rfl)
theorem dX7_lineAt_14 : decode cX7_lineAt 14 = .ok (.iload_n 1, 1) := dk_27 (dk_at dksX7_lineAt_0 14 rfl rfl)
theorem dX7_lineAt_15 : decode cX7_lineAt 15 = .ok (.iload_n 3, 1) := dk_29 (dk_at dksX7_lineAt_0 15 rfl rfl)
theorem dX7_lineAt_16 : decode cX7_lineAt 16 = .ok (.invokevirtual 410, 3) := dk_182 1 154 (dk_at dksX7_lineAt_0 16 rfl rfl)
theorem dX7_lineAt_19 : decode cX7_lineAt 19 = .ok (.i2l, 1) := dk_133 (dk_at dksX7_lineAt_0 19 rfl rfl)
theorem dX7_lineAt_20 : decode cX7_lineAt 20 = .ok (.iload 4, 2) := dk_21 4 (dk_at dksX7_lineAt_0 20 rfl rfl)
theorem dX7_lineAt_22 : decode cX7_lineAt 22 = .ok (.iload_n 2, 1) := dk_28 (dk_at dksX7_lineAt_0 22 rfl rfl)
theorem dX7_lineAt_23 : decode cX7_lineAt 23 = .ok (.isub, 1) := dk_100 (dk_at dksX7_lineAt_0 23 rfl rfl)
theorem dX7_lineAt_24 : decode cX7_lineAt 24 = .ok (.i2l, 1) := dk_133 (dk_at dksX7_lineAt_1 0 rfl rfl)
theorem dX7_lineAt_25 : decode cX7_lineAt 25 = .ok (.lmul, 1) := dk_105 (dk_at dksX7_lineAt_1 1 rfl rfl)
theorem dX7_lineAt_26 : decode cX7_lineAt 26 = .ok (.ladd, 1) := dk_97 (dk_at dksX7_lineAt_1 2 rfl rfl)
theorem dX7_lineAt_27 : decode cX7_lineAt 27 = .ok (.lreturn, 1) := dk_173 (dk_at dksX7_lineAt_1 3 rfl rfl)
abbrev cX7_bend : ByteArray := prog_32_method_99_code
def yX7_bend : MethodName := ⟨RX7, "bend", "(II)I"⟩
def dkwX7_bend_2 : List UInt8 := [104, 28, 96, 46, 167, 0, 4, 2, 172]
abbrev dktX7_bend_2 : List UInt8 := dkwX7_bend_2 ++ []
def dkwX7_bend_1 : List UInt8 := [42, 180, 0, 94, 27, 46, 172, 28, 42, 180, 0, 94, 27, 46, 162, 0, 17, 42, 180, 0, 91, 16, 25, 27]
abbrev dktX7_bend_1 : List UInt8 := dkwX7_bend_1 ++ dktX7_bend_2
def dkwX7_bend_0 : List UInt8 := [27, 184, 0, 152, 153, 0, 8, 28, 2, 162, 0, 5, 2, 172, 42, 27, 182, 1, 168, 28, 2, 160, 0, 10]
abbrev dktX7_bend_0 : List UInt8 := dkwX7_bend_0 ++ dktX7_bend_1
theorem dksX7_bend_0 : cX7_bend.data.toList.drop 0 = dktX7_bend_0 := by decide +kernel
theorem dksX7_bend_1 : cX7_bend.data.toList.drop 24 = dktX7_bend_1 := dk_seg dksX7_bend_0 24 rfl rfl
theorem dksX7_bend_2 : cX7_bend.data.toList.drop 48 = dktX7_bend_2 := dk_seg dksX7_bend_1 24 rfl rfl
theorem dX7_bend_0 : decode cX7_bend 0 = .ok (.iload_n 1, 1) := dk_27 (dk_at dksX7_bend_0 0 rfl rfl)
theorem dX7_bend_1 : decode cX7_bend 1 = .ok (.invokestatic 152, 3) := dk_184 0 152 (dk_at dksX7_bend_0 1 rfl rfl)
theorem dX7_bend_4 : decode cX7_bend 4 = .ok (.ifCond .eq 8, 3) := dk_153 0 8 (dk_at dksX7_bend_0 4 rfl rfl)
theorem dX7_bend_7 : decode cX7_bend 7 = .ok (.iload_n 2, 1) := dk_28 (dk_at dksX7_bend_0 7 rfl rfl)
theorem dX7_bend_8 : decode cX7_bend 8 = .ok (.iconst (-1), 1) := dk_2 (dk_at dksX7_bend_0 8 rfl rfl)
theorem dX7_bend_9 : decode cX7_bend 9 = .ok (.if_icmp .ge 5, 3) := dk_162 0 5 (dk_at dksX7_bend_0 9 rfl rfl)
theorem dX7_bend_12 : decode cX7_bend 12 = .ok (.iconst (-1), 1) := dk_2 (dk_at dksX7_bend_0 12 rfl rfl)
theorem dX7_bend_13 : decode cX7_bend 13 = .ok (.ireturn, 1) := dk_172 (dk_at dksX7_bend_0 13 rfl rfl)
theorem dX7_bend_14 : decode cX7_bend 14 = .ok (.aload_n 0, 1) := dk_42 (dk_at dksX7_bend_0 14 rfl rfl)
theorem dX7_bend_15 : decode cX7_bend 15 = .ok (.iload_n 1, 1) := dk_27 (dk_at dksX7_bend_0 15 rfl rfl)
theorem dX7_bend_16 : decode cX7_bend 16 = .ok (.invokevirtual 424, 3) := dk_182 1 168 (dk_at dksX7_bend_0 16 rfl rfl)
theorem dX7_bend_19 : decode cX7_bend 19 = .ok (.iload_n 2, 1) := dk_28 (dk_at dksX7_bend_0 19 rfl rfl)
theorem dX7_bend_20 : decode cX7_bend 20 = .ok (.iconst (-1), 1) := dk_2 (dk_at dksX7_bend_0 20 rfl rfl)
theorem dX7_bend_21 : decode cX7_bend 21 = .ok (.if_icmp .ne 10, 3) := dk_160 0 10 (dk_at dksX7_bend_0 21 rfl rfl)
theorem dX7_bend_24 : decode cX7_bend 24 = .ok (.aload_n 0, 1) := dk_42 (dk_at dksX7_bend_1 0 rfl rfl)
theorem dX7_bend_25 : decode cX7_bend 25 = .ok (.getfield 94, 3) := dk_180 0 94 (dk_at dksX7_bend_1 1 rfl rfl)
theorem dX7_bend_28 : decode cX7_bend 28 = .ok (.iload_n 1, 1) := dk_27 (dk_at dksX7_bend_1 4 rfl rfl)
theorem dX7_bend_29 : decode cX7_bend 29 = .ok (.iaload, 1) := dk_46 (dk_at dksX7_bend_1 5 rfl rfl)
theorem dX7_bend_30 : decode cX7_bend 30 = .ok (.ireturn, 1) := dk_172 (dk_at dksX7_bend_1 6 rfl rfl)
theorem dX7_bend_31 : decode cX7_bend 31 = .ok (.iload_n 2, 1) := dk_28 (dk_at dksX7_bend_1 7 rfl rfl)
theorem dX7_bend_32 : decode cX7_bend 32 = .ok (.aload_n 0, 1) := dk_42 (dk_at dksX7_bend_1 8 rfl rfl)
theorem dX7_bend_33 : decode cX7_bend 33 = .ok (.getfield 94, 3) := dk_180 0 94 (dk_at dksX7_bend_1 9 rfl rfl)
theorem dX7_bend_36 : decode cX7_bend 36 = .ok (.iload_n 1, 1) := dk_27 (dk_at dksX7_bend_1 12 rfl rfl)
theorem dX7_bend_37 : decode cX7_bend 37 = .ok (.iaload, 1) := dk_46 (dk_at dksX7_bend_1 13 rfl rfl)
theorem dX7_bend_38 : decode cX7_bend 38 = .ok (.if_icmp .ge 17, 3) := dk_162 0 17 (dk_at dksX7_bend_1 14 rfl rfl)
theorem dX7_bend_41 : decode cX7_bend 41 = .ok (.aload_n 0, 1) := dk_42 (dk_at dksX7_bend_1 17 rfl rfl)
theorem dX7_bend_42 : decode cX7_bend 42 = .ok (.getfield 91, 3) := dk_180 0 91 (dk_at dksX7_bend_1 18 rfl rfl)
theorem dX7_bend_45 : decode cX7_bend 45 = .ok (.bipush 25, 2) := dk_16 25 (dk_at dksX7_bend_1 21 rfl rfl)
theorem dX7_bend_47 : decode cX7_bend 47 = .ok (.iload_n 1, 1) := dk_27 (dk_at dksX7_bend_1 23 rfl rfl)
theorem dX7_bend_48 : decode cX7_bend 48 = .ok (.imul, 1) := dk_104 (dk_at dksX7_bend_2 0 rfl rfl)
theorem dX7_bend_49 : decode cX7_bend 49 = .ok (.iload_n 2, 1) := dk_28 (dk_at dksX7_bend_2 1 rfl rfl)
theorem dX7_bend_50 : decode cX7_bend 50 = .ok (.iadd, 1) := dk_96 (dk_at dksX7_bend_2 2 rfl rfl)
theorem dX7_bend_51 : decode cX7_bend 51 = .ok (.iaload, 1) := dk_46 (dk_at dksX7_bend_2 3 rfl rfl)
theorem dX7_bend_52 : decode cX7_bend 52 = .ok (.goto 4, 3) := dk_167 0 4 (dk_at dksX7_bend_2 4 rfl rfl)
theorem dX7_bend_55 : decode cX7_bend 55 = .ok (.iconst (-1), 1) := dk_2 (dk_at dksX7_bend_2 7 rfl rfl)
theorem dX7_bend_56 : decode cX7_bend 56 = .ok (.ireturn, 1) := dk_172 (dk_at dksX7_bend_2 8 rfl rfl)
abbrev cX7_laysBends : ByteArray := prog_32_method_98_code
def yX7_laysBends : MethodName := ⟨RX7, "laysBends", "(I)V"⟩
def dkwX7_laysBends_2 : List UInt8 := [28, 79, 42, 180, 0, 94, 27, 92, 46, 4, 96, 79, 132, 2, 1, 167, 255, 208, 177]
abbrev dktX7_laysBends_2 : List UInt8 := dkwX7_laysBends_2 ++ []
def dkwX7_laysBends_1 : List UInt8 := [182, 1, 165, 154, 0, 6, 167, 0, 30, 42, 180, 0, 91, 16, 25, 27, 104, 42, 180, 0, 94, 27, 46, 96]
abbrev dktX7_laysBends_1 : List UInt8 := dkwX7_laysBends_1 ++ dktX7_laysBends_2
def dkwX7_laysBends_0 : List UInt8 := [42, 27, 182, 1, 151, 42, 180, 0, 94, 27, 3, 79, 3, 61, 28, 16, 24, 163, 0, 48, 42, 27, 28]
abbrev dktX7_laysBends_0 : List UInt8 := dkwX7_laysBends_0 ++ dktX7_laysBends_1
theorem dksX7_laysBends_0 : cX7_laysBends.data.toList.drop 0 = dktX7_laysBends_0 := by decide +kernel
theorem dksX7_laysBends_1 : cX7_laysBends.data.toList.drop 23 = dktX7_laysBends_1 := dk_seg dksX7_laysBends_0 23 rfl rfl
theorem dksX7_laysBends_2 : cX7_laysBends.data.toList.drop 47 = dktX7_laysBends_2 := dk_seg dksX7_laysBends_1 24 rfl rfl
theorem dX7_laysBends_0 : decode cX7_laysBends 0 = .ok (.aload_n 0, 1) := dk_42 (dk_at dksX7_laysBends_0 0 rfl rfl)
theorem dX7_laysBends_1 : decode cX7_laysBends 1 = .ok (.iload_n 1, 1) := dk_27 (dk_at dksX7_laysBends_0 1 rfl rfl)
theorem dX7_laysBends_2 : decode cX7_laysBends 2 = .ok (.invokevirtual 407, 3) := dk_182 1 151 (dk_at dksX7_laysBends_0 2 rfl rfl)
theorem dX7_laysBends_5 : decode cX7_laysBends 5 = .ok (.aload_n 0, 1) := dk_42 (dk_at dksX7_laysBends_0 5 rfl rfl)
theorem dX7_laysBends_6 : decode cX7_laysBends 6 = .ok (.getfield 94, 3) := dk_180 0 94 (dk_at dksX7_laysBends_0 6 rfl rfl)
theorem dX7_laysBends_9 : decode cX7_laysBends 9 = .ok (.iload_n 1, 1) := dk_27 (dk_at dksX7_laysBends_0 9 rfl rfl)
theorem dX7_laysBends_10 : decode cX7_laysBends 10 = .ok (.iconst 0, 1) := dk_3 (dk_at dksX7_laysBends_0 10 rfl rfl)
theorem dX7_laysBends_11 : decode cX7_laysBends 11 = .ok (.iastore, 1) := dk_79 (dk_at dksX7_laysBends_0 11 rfl rfl)
theorem dX7_laysBends_12 : decode cX7_laysBends 12 = .ok (.iconst 0, 1) := dk_3 (dk_at dksX7_laysBends_0 12 rfl rfl)
theorem dX7_laysBends_13 : decode cX7_laysBends 13 = .ok (.istore_n 2, 1) := dk_61 (dk_at dksX7_laysBends_0 13 rfl rfl)
theorem dX7_laysBends_14 : decode cX7_laysBends 14 = .ok (.iload_n 2, 1) := dk_28 (dk_at dksX7_laysBends_0 14 rfl rfl)
theorem dX7_laysBends_15 : decode cX7_laysBends 15 = .ok (.bipush 24, 2) := dk_16 24 (dk_at dksX7_laysBends_0 15 rfl rfl)
theorem dX7_laysBends_17 : decode cX7_laysBends 17 = .ok (.if_icmp .gt 48, 3) := dk_163 0 48 (dk_at dksX7_laysBends_0 17 rfl rfl)
theorem dX7_laysBends_20 : decode cX7_laysBends 20 = .ok (.aload_n 0, 1) := dk_42 (dk_at dksX7_laysBends_0 20 rfl rfl)
theorem dX7_laysBends_21 : decode cX7_laysBends 21 = .ok (.iload_n 1, 1) := dk_27 (dk_at dksX7_laysBends_0 21 rfl rfl)
theorem dX7_laysBends_22 : decode cX7_laysBends 22 = .ok (.iload_n 2, 1) := dk_28 (dk_at dksX7_laysBends_0 22 rfl rfl)
theorem dX7_laysBends_23 : decode cX7_laysBends 23 = .ok (.invokevirtual 421, 3) := dk_182 1 165 (dk_at dksX7_laysBends_1 0 rfl rfl)
theorem dX7_laysBends_26 : decode cX7_laysBends 26 = .ok (.ifCond .ne 6, 3) := dk_154 0 6 (dk_at dksX7_laysBends_1 3 rfl rfl)
theorem dX7_laysBends_29 : decode cX7_laysBends 29 = .ok (.goto 30, 3) := dk_167 0 30 (dk_at dksX7_laysBends_1 6 rfl rfl)
theorem dX7_laysBends_32 : decode cX7_laysBends 32 = .ok (.aload_n 0, 1) := dk_42 (dk_at dksX7_laysBends_1 9 rfl rfl)
theorem dX7_laysBends_33 : decode cX7_laysBends 33 = .ok (.getfield 91, 3) := dk_180 0 91 (dk_at dksX7_laysBends_1 10 rfl rfl)
theorem dX7_laysBends_36 : decode cX7_laysBends 36 = .ok (.bipush 25, 2) := dk_16 25 (dk_at dksX7_laysBends_1 13 rfl rfl)
theorem dX7_laysBends_38 : decode cX7_laysBends 38 = .ok (.iload_n 1, 1) := dk_27 (dk_at dksX7_laysBends_1 15 rfl rfl)
theorem dX7_laysBends_39 : decode cX7_laysBends 39 = .ok (.imul, 1) := dk_104 (dk_at dksX7_laysBends_1 16 rfl rfl)
theorem dX7_laysBends_40 : decode cX7_laysBends 40 = .ok (.aload_n 0, 1) := dk_42 (dk_at dksX7_laysBends_1 17 rfl rfl)
theorem dX7_laysBends_41 : decode cX7_laysBends 41 = .ok (.getfield 94, 3) := dk_180 0 94 (dk_at dksX7_laysBends_1 18 rfl rfl)
theorem dX7_laysBends_44 : decode cX7_laysBends 44 = .ok (.iload_n 1, 1) := dk_27 (dk_at dksX7_laysBends_1 21 rfl rfl)
theorem dX7_laysBends_45 : decode cX7_laysBends 45 = .ok (.iaload, 1) := dk_46 (dk_at dksX7_laysBends_1 22 rfl rfl)
theorem dX7_laysBends_46 : decode cX7_laysBends 46 = .ok (.iadd, 1) := dk_96 (dk_at dksX7_laysBends_1 23 rfl rfl)
theorem dX7_laysBends_47 : decode cX7_laysBends 47 = .ok (.iload_n 2, 1) := dk_28 (dk_at dksX7_laysBends_2 0 rfl rfl)
theorem dX7_laysBends_48 : decode cX7_laysBends 48 = .ok (.iastore, 1) := dk_79 (dk_at dksX7_laysBends_2 1 rfl rfl)
theorem dX7_laysBends_49 : decode cX7_laysBends 49 = .ok (.aload_n 0, 1) := dk_42 (dk_at dksX7_laysBends_2 2 rfl rfl)
theorem dX7_laysBends_50 : decode cX7_laysBends 50 = .ok (.getfield 94, 3) := dk_180 0 94 (dk_at dksX7_laysBends_2 3 rfl rfl)
theorem dX7_laysBends_53 : decode cX7_laysBends 53 = .ok (.iload_n 1, 1) := dk_27 (dk_at dksX7_laysBends_2 6 rfl rfl)
theorem dX7_laysBends_54 : decode cX7_laysBends 54 = .ok (.dup2, 1) := dk_92 (dk_at dksX7_laysBends_2 7 rfl rfl)
theorem dX7_laysBends_55 : decode cX7_laysBends 55 = .ok (.iaload, 1) := dk_46 (dk_at dksX7_laysBends_2 8 rfl rfl)
theorem dX7_laysBends_56 : decode cX7_laysBends 56 = .ok (.iconst 1, 1) := dk_4 (dk_at dksX7_laysBends_2 9 rfl rfl)
theorem dX7_laysBends_57 : decode cX7_laysBends 57 = .ok (.iadd, 1) := dk_96 (dk_at dksX7_laysBends_2 10 rfl rfl)
theorem dX7_laysBends_58 : decode cX7_laysBends 58 = .ok (.iastore, 1) := dk_79 (dk_at dksX7_laysBends_2 11 rfl rfl)
theorem dX7_laysBends_59 : decode cX7_laysBends 59 = .ok (.iinc 2 1, 3) := dk_132 2 1 (dk_at dksX7_laysBends_2 12 rfl rfl)
theorem dX7_laysBends_62 : decode cX7_laysBends 62 = .ok (.goto (-48), 3) := dk_167 255 208 (dk_at dksX7_laysBends_2 15 rfl rfl)
theorem dX7_laysBends_65 : decode cX7_laysBends 65 = .ok (.return_, 1) := dk_177 (dk_at dksX7_laysBends_2 18 rfl rfl)
abbrev cX7_isBend : ByteArray := prog_32_method_97_code
def yX7_isBend : MethodName := ⟨RX7, "isBend", "(II)Z"⟩
def dkwX7_isBend_3 : List UInt8 := [167, 255, 191, 29, 172]
abbrev dktX7_isBend_3 : List UInt8 := dkwX7_isBend_3 ++ []
def dkwX7_isBend_2 : List UInt8 := [182, 1, 161, 148, 156, 0, 7, 4, 167, 0, 4, 3, 62, 132, 5, 1, 167, 255, 208, 132, 4, 1]
abbrev dktX7_isBend_2 : List UInt8 := dkwX7_isBend_2 ++ dktX7_isBend_3
def dkwX7_isBend_1 : List UInt8 := [153, 0, 35, 42, 27, 28, 182, 1, 154, 133, 21, 5, 21, 4, 100, 133, 105, 42, 27, 21, 4, 21, 5, 28]
abbrev dktX7_isBend_1 : List UInt8 := dkwX7_isBend_1 ++ dktX7_isBend_2
def dkwX7_isBend_0 : List UInt8 := [4, 62, 3, 54, 4, 21, 4, 28, 162, 0, 65, 28, 4, 96, 54, 5, 21, 5, 16, 24, 163, 0, 47, 29]
abbrev dktX7_isBend_0 : List UInt8 := dkwX7_isBend_0 ++ dktX7_isBend_1
theorem dksX7_isBend_0 : cX7_isBend.data.toList.drop 0 = dktX7_isBend_0 := by decide +kernel
theorem dksX7_isBend_1 : cX7_isBend.data.toList.drop 24 = dktX7_isBend_1 := dk_seg dksX7_isBend_0 24 rfl rfl
theorem dksX7_isBend_2 : cX7_isBend.data.toList.drop 48 = dktX7_isBend_2 := dk_seg dksX7_isBend_1 24 rfl rfl
theorem dksX7_isBend_3 : cX7_isBend.data.toList.drop 70 = dktX7_isBend_3 := dk_seg dksX7_isBend_2 22 rfl rfl
theorem dX7_isBend_0 : decode cX7_isBend 0 = .ok (.iconst 1, 1) := dk_4 (dk_at dksX7_isBend_0 0 rfl rfl)
theorem dX7_isBend_1 : decode cX7_isBend 1 = .ok (.istore_n 3, 1) := dk_62 (dk_at dksX7_isBend_0 1 rfl rfl)
theorem dX7_isBend_2 : decode cX7_isBend 2 = .ok (.iconst 0, 1) := dk_3 (dk_at dksX7_isBend_0 2 rfl rfl)
theorem dX7_isBend_3 : decode cX7_isBend 3 = .ok (.istore 4, 2) := dk_54 4 (dk_at dksX7_isBend_0 3 rfl rfl)
theorem dX7_isBend_5 : decode cX7_isBend 5 = .ok (.iload 4, 2) := dk_21 4 (dk_at dksX7_isBend_0 5 rfl rfl)
theorem dX7_isBend_7 : decode cX7_isBend 7 = .ok (.iload_n 2, 1) := dk_28 (dk_at dksX7_isBend_0 7 rfl rfl)
theorem dX7_isBend_8 : decode cX7_isBend 8 = .ok (.if_icmp .ge 65, 3) := dk_162 0 65 (dk_at dksX7_isBend_0 8 rfl rfl)
theorem dX7_isBend_11 : decode cX7_isBend 11 = .ok (.iload_n 2, 1) := dk_28 (dk_at dksX7_isBend_0 11 rfl rfl)
theorem dX7_isBend_12 : decode cX7_isBend 12 = .ok (.iconst 1, 1) := dk_4 (dk_at dksX7_isBend_0 12 rfl rfl)
theorem dX7_isBend_13 : decode cX7_isBend 13 = .ok (.iadd, 1) := dk_96 (dk_at dksX7_isBend_0 13 rfl rfl)
theorem dX7_isBend_14 : decode cX7_isBend 14 = .ok (.istore 5, 2) := dk_54 5 (dk_at dksX7_isBend_0 14 rfl rfl)
theorem dX7_isBend_16 : decode cX7_isBend 16 = .ok (.iload 5, 2) := dk_21 5 (dk_at dksX7_isBend_0 16 rfl rfl)
theorem dX7_isBend_18 : decode cX7_isBend 18 = .ok (.bipush 24, 2) := dk_16 24 (dk_at dksX7_isBend_0 18 rfl rfl)
theorem dX7_isBend_20 : decode cX7_isBend 20 = .ok (.if_icmp .gt 47, 3) := dk_163 0 47 (dk_at dksX7_isBend_0 20 rfl rfl)
theorem dX7_isBend_23 : decode cX7_isBend 23 = .ok (.iload_n 3, 1) := dk_29 (dk_at dksX7_isBend_0 23 rfl rfl)
theorem dX7_isBend_24 : decode cX7_isBend 24 = .ok (.ifCond .eq 35, 3) := dk_153 0 35 (dk_at dksX7_isBend_1 0 rfl rfl)
theorem dX7_isBend_27 : decode cX7_isBend 27 = .ok (.aload_n 0, 1) := dk_42 (dk_at dksX7_isBend_1 3 rfl rfl)
theorem dX7_isBend_28 : decode cX7_isBend 28 = .ok (.iload_n 1, 1) := dk_27 (dk_at dksX7_isBend_1 4 rfl rfl)
theorem dX7_isBend_29 : decode cX7_isBend 29 = .ok (.iload_n 2, 1) := dk_28 (dk_at dksX7_isBend_1 5 rfl rfl)
theorem dX7_isBend_30 : decode cX7_isBend 30 = .ok (.invokevirtual 410, 3) := dk_182 1 154 (dk_at dksX7_isBend_1 6 rfl rfl)
theorem dX7_isBend_33 : decode cX7_isBend 33 = .ok (.i2l, 1) := dk_133 (dk_at dksX7_isBend_1 9 rfl rfl)
theorem dX7_isBend_34 : decode cX7_isBend 34 = .ok (.iload 5, 2) := dk_21 5 (dk_at dksX7_isBend_1 10 rfl rfl)
theorem dX7_isBend_36 : decode cX7_isBend 36 = .ok (.iload 4, 2) := dk_21 4 (dk_at dksX7_isBend_1 12 rfl rfl)
theorem dX7_isBend_38 : decode cX7_isBend 38 = .ok (.isub, 1) := dk_100 (dk_at dksX7_isBend_1 14 rfl rfl)
theorem dX7_isBend_39 : decode cX7_isBend 39 = .ok (.i2l, 1) := dk_133 (dk_at dksX7_isBend_1 15 rfl rfl)
theorem dX7_isBend_40 : decode cX7_isBend 40 = .ok (.lmul, 1) := dk_105 (dk_at dksX7_isBend_1 16 rfl rfl)
theorem dX7_isBend_41 : decode cX7_isBend 41 = .ok (.aload_n 0, 1) := dk_42 (dk_at dksX7_isBend_1 17 rfl rfl)
theorem dX7_isBend_42 : decode cX7_isBend 42 = .ok (.iload_n 1, 1) := dk_27 (dk_at dksX7_isBend_1 18 rfl rfl)
theorem dX7_isBend_43 : decode cX7_isBend 43 = .ok (.iload 4, 2) := dk_21 4 (dk_at dksX7_isBend_1 19 rfl rfl)
theorem dX7_isBend_45 : decode cX7_isBend 45 = .ok (.iload 5, 2) := dk_21 5 (dk_at dksX7_isBend_1 21 rfl rfl)
theorem dX7_isBend_47 : decode cX7_isBend 47 = .ok (.iload_n 2, 1) := dk_28 (dk_at dksX7_isBend_1 23 rfl rfl)
theorem dX7_isBend_48 : decode cX7_isBend 48 = .ok (.invokevirtual 417, 3) := dk_182 1 161 (dk_at dksX7_isBend_2 0 rfl rfl)
theorem dX7_isBend_51 : decode cX7_isBend 51 = .ok (.lcmp, 1) := dk_148 (dk_at dksX7_isBend_2 3 rfl rfl)
theorem dX7_isBend_52 : decode cX7_isBend 52 = .ok (.ifCond .ge 7, 3) := dk_156 0 7 (dk_at dksX7_isBend_2 4 rfl rfl)
theorem dX7_isBend_55 : decode cX7_isBend 55 = .ok (.iconst 1, 1) := dk_4 (dk_at dksX7_isBend_2 7 rfl rfl)
theorem dX7_isBend_56 : decode cX7_isBend 56 = .ok (.goto 4, 3) := dk_167 0 4 (dk_at dksX7_isBend_2 8 rfl rfl)
theorem dX7_isBend_59 : decode cX7_isBend 59 = .ok (.iconst 0, 1) := dk_3 (dk_at dksX7_isBend_2 11 rfl rfl)
theorem dX7_isBend_60 : decode cX7_isBend 60 = .ok (.istore_n 3, 1) := dk_62 (dk_at dksX7_isBend_2 12 rfl rfl)
theorem dX7_isBend_61 : decode cX7_isBend 61 = .ok (.iinc 5 1, 3) := dk_132 5 1 (dk_at dksX7_isBend_2 13 rfl rfl)
theorem dX7_isBend_64 : decode cX7_isBend 64 = .ok (.goto (-48), 3) := dk_167 255 208 (dk_at dksX7_isBend_2 16 rfl rfl)
theorem dX7_isBend_67 : decode cX7_isBend 67 = .ok (.iinc 4 1, 3) := dk_132 4 1 (dk_at dksX7_isBend_2 19 rfl rfl)
theorem dX7_isBend_70 : decode cX7_isBend 70 = .ok (.goto (-65), 3) := dk_167 255 191 (dk_at dksX7_isBend_3 0 rfl rfl)
theorem dX7_isBend_73 : decode cX7_isBend 73 = .ok (.iload_n 3, 1) := dk_29 (dk_at dksX7_isBend_3 3 rfl rfl)
theorem dX7_isBend_74 : decode cX7_isBend 74 = .ok (.ireturn, 1) := dk_172 (dk_at dksX7_isBend_3 4 rfl rfl)
abbrev cX7_report : ByteArray := prog_32_method_102_code
def yX7_report : MethodName := ⟨RX7, "report", "(I)I"⟩
def dkwX7_report_3 : List UInt8 := [182, 1, 177, 132, 2, 1, 167, 255, 200, 42, 16, 46, 182, 1, 174, 42, 180, 1, 171, 172]
abbrev dktX7_report_3 : List UInt8 := dkwX7_report_3 ++ []
def dkwX7_report_2 : List UInt8 := [27, 104, 28, 96, 46, 62, 42, 29, 182, 1, 177, 42, 16, 58, 182, 1, 174, 42, 42, 27, 29, 182, 1, 154]
abbrev dktX7_report_2 : List UInt8 := dkwX7_report_2 ++ dktX7_report_3
def dkwX7_report_1 : List UInt8 := [180, 0, 94, 27, 46, 162, 0, 52, 28, 158, 0, 9, 42, 16, 44, 182, 1, 174, 42, 180, 0, 91, 16, 25]
abbrev dktX7_report_1 : List UInt8 := dkwX7_report_1 ++ dktX7_report_2
def dkwX7_report_0 : List UInt8 := [27, 184, 0, 152, 154, 0, 5, 2, 172, 42, 27, 182, 1, 168, 42, 3, 181, 1, 171, 3, 61, 28, 42]
abbrev dktX7_report_0 : List UInt8 := dkwX7_report_0 ++ dktX7_report_1
theorem dksX7_report_0 : cX7_report.data.toList.drop 0 = dktX7_report_0 := by decide +kernel
theorem dksX7_report_1 : cX7_report.data.toList.drop 23 = dktX7_report_1 := dk_seg dksX7_report_0 23 rfl rfl
theorem dksX7_report_2 : cX7_report.data.toList.drop 47 = dktX7_report_2 := dk_seg dksX7_report_1 24 rfl rfl
theorem dksX7_report_3 : cX7_report.data.toList.drop 71 = dktX7_report_3 := dk_seg dksX7_report_2 24 rfl rfl
theorem dX7_report_0 : decode cX7_report 0 = .ok (.iload_n 1, 1) := dk_27 (dk_at dksX7_report_0 0 rfl rfl)
theorem dX7_report_1 : decode cX7_report 1 = .ok (.invokestatic 152, 3) := dk_184 0 152 (dk_at dksX7_report_0 1 rfl rfl)
theorem dX7_report_4 : decode cX7_report 4 = .ok (.ifCond .ne 5, 3) := dk_154 0 5 (dk_at dksX7_report_0 4 rfl rfl)
theorem dX7_report_7 : decode cX7_report 7 = .ok (.iconst (-1), 1) := dk_2 (dk_at dksX7_report_0 7 rfl rfl)
theorem dX7_report_8 : decode cX7_report 8 = .ok (.ireturn, 1) := dk_172 (dk_at dksX7_report_0 8 rfl rfl)
theorem dX7_report_9 : decode cX7_report 9 = .ok (.aload_n 0, 1) := dk_42 (dk_at dksX7_report_0 9 rfl rfl)
theorem dX7_report_10 : decode cX7_report 10 = .ok (.iload_n 1, 1) := dk_27 (dk_at dksX7_report_0 10 rfl rfl)
theorem dX7_report_11 : decode cX7_report 11 = .ok (.invokevirtual 424, 3) := dk_182 1 168 (dk_at dksX7_report_0 11 rfl rfl)
theorem dX7_report_14 : decode cX7_report 14 = .ok (.aload_n 0, 1) := dk_42 (dk_at dksX7_report_0 14 rfl rfl)
theorem dX7_report_15 : decode cX7_report 15 = .ok (.iconst 0, 1) := dk_3 (dk_at dksX7_report_0 15 rfl rfl)
theorem dX7_report_16 : decode cX7_report 16 = .ok (.putfield 427, 3) := dk_181 1 171 (dk_at dksX7_report_0 16 rfl rfl)
theorem dX7_report_19 : decode cX7_report 19 = .ok (.iconst 0, 1) := dk_3 (dk_at dksX7_report_0 19 rfl rfl)
theorem dX7_report_20 : decode cX7_report 20 = .ok (.istore_n 2, 1) := dk_61 (dk_at dksX7_report_0 20 rfl rfl)
theorem dX7_report_21 : decode cX7_report 21 = .ok (.iload_n 2, 1) := dk_28 (dk_at dksX7_report_0 21 rfl rfl)
theorem dX7_report_22 : decode cX7_report 22 = .ok (.aload_n 0, 1) := dk_42 (dk_at dksX7_report_0 22 rfl rfl)
theorem dX7_report_23 : decode cX7_report 23 = .ok (.getfield 94, 3) := dk_180 0 94 (dk_at dksX7_report_1 0 rfl rfl)
theorem dX7_report_26 : decode cX7_report 26 = .ok (.iload_n 1, 1) := dk_27 (dk_at dksX7_report_1 3 rfl rfl)
theorem dX7_report_27 : decode cX7_report 27 = .ok (.iaload, 1) := dk_46 (dk_at dksX7_report_1 4 rfl rfl)
theorem dX7_report_28 : decode cX7_report 28 = .ok (.if_icmp .ge 52, 3) := dk_162 0 52 (dk_at dksX7_report_1 5 rfl rfl)
theorem dX7_report_31 : decode cX7_report 31 = .ok (.iload_n 2, 1) := dk_28 (dk_at dksX7_report_1 8 rfl rfl)
theorem dX7_report_32 : decode cX7_report 32 = .ok (.ifCond .le 9, 3) := dk_158 0 9 (dk_at dksX7_report_1 9 rfl rfl)
theorem dX7_report_35 : decode cX7_report 35 = .ok (.aload_n 0, 1) := dk_42 (dk_at dksX7_report_1 12 rfl rfl)
theorem dX7_report_36 : decode cX7_report 36 = .ok (.bipush 44, 2) := dk_16 44 (dk_at dksX7_report_1 13 rfl rfl)
theorem dX7_report_38 : decode cX7_report 38 = .ok (.invokevirtual 430, 3) := dk_182 1 174 (dk_at dksX7_report_1 15 rfl rfl)
theorem dX7_report_41 : decode cX7_report 41 = .ok (.aload_n 0, 1) := dk_42 (dk_at dksX7_report_1 18 rfl rfl)
theorem dX7_report_42 : decode cX7_report 42 = .ok (.getfield 91, 3) := dk_180 0 91 (dk_at dksX7_report_1 19 rfl rfl)
theorem dX7_report_45 : decode cX7_report 45 = .ok (.bipush 25, 2) := dk_16 25 (dk_at dksX7_report_1 22 rfl rfl)
theorem dX7_report_47 : decode cX7_report 47 = .ok (.iload_n 1, 1) := dk_27 (dk_at dksX7_report_2 0 rfl rfl)
theorem dX7_report_48 : decode cX7_report 48 = .ok (.imul, 1) := dk_104 (dk_at dksX7_report_2 1 rfl rfl)
theorem dX7_report_49 : decode cX7_report 49 = .ok (.iload_n 2, 1) := dk_28 (dk_at dksX7_report_2 2 rfl rfl)
theorem dX7_report_50 : decode cX7_report 50 = .ok (.iadd, 1) := dk_96 (dk_at dksX7_report_2 3 rfl rfl)
theorem dX7_report_51 : decode cX7_report 51 = .ok (.iaload, 1) := dk_46 (dk_at dksX7_report_2 4 rfl rfl)
theorem dX7_report_52 : decode cX7_report 52 = .ok (.istore_n 3, 1) := dk_62 (dk_at dksX7_report_2 5 rfl rfl)
theorem dX7_report_53 : decode cX7_report 53 = .ok (.aload_n 0, 1) := dk_42 (dk_at dksX7_report_2 6 rfl rfl)
theorem dX7_report_54 : decode cX7_report 54 = .ok (.iload_n 3, 1) := dk_29 (dk_at dksX7_report_2 7 rfl rfl)
theorem dX7_report_55 : decode cX7_report 55 = .ok (.invokevirtual 433, 3) := dk_182 1 177 (dk_at dksX7_report_2 8 rfl rfl)
theorem dX7_report_58 : decode cX7_report 58 = .ok (.aload_n 0, 1) := dk_42 (dk_at dksX7_report_2 11 rfl rfl)
theorem dX7_report_59 : decode cX7_report 59 = .ok (.bipush 58, 2) := dk_16 58 (dk_at dksX7_report_2 12 rfl rfl)
theorem dX7_report_61 : decode cX7_report 61 = .ok (.invokevirtual 430, 3) := dk_182 1 174 (dk_at dksX7_report_2 14 rfl rfl)
theorem dX7_report_64 : decode cX7_report 64 = .ok (.aload_n 0, 1) := dk_42 (dk_at dksX7_report_2 17 rfl rfl)
theorem dX7_report_65 : decode cX7_report 65 = .ok (.aload_n 0, 1) := dk_42 (dk_at dksX7_report_2 18 rfl rfl)
theorem dX7_report_66 : decode cX7_report 66 = .ok (.iload_n 1, 1) := dk_27 (dk_at dksX7_report_2 19 rfl rfl)
theorem dX7_report_67 : decode cX7_report 67 = .ok (.iload_n 3, 1) := dk_29 (dk_at dksX7_report_2 20 rfl rfl)
theorem dX7_report_68 : decode cX7_report 68 = .ok (.invokevirtual 410, 3) := dk_182 1 154 (dk_at dksX7_report_2 21 rfl rfl)
theorem dX7_report_71 : decode cX7_report 71 = .ok (.invokevirtual 433, 3) := dk_182 1 177 (dk_at dksX7_report_3 0 rfl rfl)
theorem dX7_report_74 : decode cX7_report 74 = .ok (.iinc 2 1, 3) := dk_132 2 1 (dk_at dksX7_report_3 3 rfl rfl)
theorem dX7_report_77 : decode cX7_report 77 = .ok (.goto (-56), 3) := dk_167 255 200 (dk_at dksX7_report_3 6 rfl rfl)
theorem dX7_report_80 : decode cX7_report 80 = .ok (.aload_n 0, 1) := dk_42 (dk_at dksX7_report_3 9 rfl rfl)
theorem dX7_report_81 : decode cX7_report 81 = .ok (.bipush 46, 2) := dk_16 46 (dk_at dksX7_report_3 10 rfl rfl)
theorem dX7_report_83 : decode cX7_report 83 = .ok (.invokevirtual 430, 3) := dk_182 1 174 (dk_at dksX7_report_3 12 rfl rfl)
theorem dX7_report_86 : decode cX7_report 86 = .ok (.aload_n 0, 1) := dk_42 (dk_at dksX7_report_3 15 rfl rfl)
theorem dX7_report_87 : decode cX7_report 87 = .ok (.getfield 427, 3) := dk_180 1 171 (dk_at dksX7_report_3 16 rfl rfl)
theorem dX7_report_90 : decode cX7_report 90 = .ok (.ireturn, 1) := dk_172 (dk_at dksX7_report_3 19 rfl rfl)
abbrev cX7_writes : ByteArray := prog_32_method_100_code
def yX7_writes : MethodName := ⟨RX7, "writes", "(I)V"⟩
def dkwX7_writes_0 : List UInt8 := [42, 180, 0, 97, 42, 180, 1, 171, 27, 145, 84, 42, 89, 180, 1, 171, 4, 96, 181, 1, 171, 177]
abbrev dktX7_writes_0 : List UInt8 := dkwX7_writes_0 ++ []
theorem dksX7_writes_0 : cX7_writes.data.toList.drop 0 = dktX7_writes_0 := by decide +kernel
theorem dX7_writes_0 : decode cX7_writes 0 = .ok (.aload_n 0, 1) := dk_42 (dk_at dksX7_writes_0 0 rfl rfl)
theorem dX7_writes_1 : decode cX7_writes 1 = .ok (.getfield 97, 3) := dk_180 0 97 (dk_at dksX7_writes_0 1 rfl rfl)
theorem dX7_writes_4 : decode cX7_writes 4 = .ok (.aload_n 0, 1) := dk_42 (dk_at dksX7_writes_0 4 rfl rfl)
theorem dX7_writes_5 : decode cX7_writes 5 = .ok (.getfield 427, 3) := dk_180 1 171 (dk_at dksX7_writes_0 5 rfl rfl)
theorem dX7_writes_8 : decode cX7_writes 8 = .ok (.iload_n 1, 1) := dk_27 (dk_at dksX7_writes_0 8 rfl rfl)
theorem dX7_writes_9 : decode cX7_writes 9 = .ok (.i2b, 1) := dk_145 (dk_at dksX7_writes_0 9 rfl rfl)
theorem dX7_writes_10 : decode cX7_writes 10 = .ok (.bastore, 1) := dk_84 (dk_at dksX7_writes_0 10 rfl rfl)
theorem dX7_writes_11 : decode cX7_writes 11 = .ok (.aload_n 0, 1) := dk_42 (dk_at dksX7_writes_0 11 rfl rfl)
theorem dX7_writes_12 : decode cX7_writes 12 = .ok (.dup, 1) := dk_89 (dk_at dksX7_writes_0 12 rfl rfl)
theorem dX7_writes_13 : decode cX7_writes 13 = .ok (.getfield 427, 3) := dk_180 1 171 (dk_at dksX7_writes_0 13 rfl rfl)
theorem dX7_writes_16 : decode cX7_writes 16 = .ok (.iconst 1, 1) := dk_4 (dk_at dksX7_writes_0 16 rfl rfl)
theorem dX7_writes_17 : decode cX7_writes 17 = .ok (.iadd, 1) := dk_96 (dk_at dksX7_writes_0 17 rfl rfl)
theorem dX7_writes_18 : decode cX7_writes 18 = .ok (.putfield 427, 3) := dk_181 1 171 (dk_at dksX7_writes_0 18 rfl rfl)
theorem dX7_writes_21 : decode cX7_writes 21 = .ok (.return_, 1) := dk_177 (dk_at dksX7_writes_0 21 rfl rfl)
abbrev cX7_writesNumber : ByteArray := prog_32_method_101_code
def yX7_writesNumber : MethodName := ⟨RX7, "writesNumber", "(I)V"⟩
def dkwX7_writesNumber_2 : List UInt8 := [51, 182, 1, 174, 132, 4, 255, 167, 255, 237, 177]
abbrev dktX7_writesNumber_2 : List UInt8 := dkwX7_writesNumber_2 ++ []
def dkwX7_writesNumber_1 : List UInt8 := [132, 3, 1, 28, 157, 255, 233, 29, 4, 100, 54, 4, 21, 4, 155, 0, 20, 42, 42, 180, 0, 100, 21, 4]
abbrev dktX7_writesNumber_1 : List UInt8 := dkwX7_writesNumber_1 ++ dktX7_writesNumber_2
def dkwX7_writesNumber_0 : List UInt8 := [27, 61, 3, 62, 42, 180, 0, 100, 29, 16, 48, 28, 16, 10, 112, 96, 145, 84, 28, 16, 10, 108, 61]
abbrev dktX7_writesNumber_0 : List UInt8 := dkwX7_writesNumber_0 ++ dktX7_writesNumber_1
theorem dksX7_writesNumber_0 : cX7_writesNumber.data.toList.drop 0 = dktX7_writesNumber_0 := by decide +kernel
theorem dksX7_writesNumber_1 : cX7_writesNumber.data.toList.drop 23 = dktX7_writesNumber_1 := dk_seg dksX7_writesNumber_0 23 rfl rfl
theorem dksX7_writesNumber_2 : cX7_writesNumber.data.toList.drop 47 = dktX7_writesNumber_2 := dk_seg dksX7_writesNumber_1 24 rfl rfl
theorem dX7_writesNumber_0 : decode cX7_writesNumber 0 = .ok (.iload_n 1, 1) := dk_27 (dk_at dksX7_writesNumber_0 0 rfl rfl)
theorem dX7_writesNumber_1 : decode cX7_writesNumber 1 = .ok (.istore_n 2, 1) := dk_61 (dk_at dksX7_writesNumber_0 1 rfl rfl)
theorem dX7_writesNumber_2 : decode cX7_writesNumber 2 = .ok (.iconst 0, 1) := dk_3 (dk_at dksX7_writesNumber_0 2 rfl rfl)
theorem dX7_writesNumber_3 : decode cX7_writesNumber 3 = .ok (.istore_n 3, 1) := dk_62 (dk_at dksX7_writesNumber_0 3 rfl rfl)
theorem dX7_writesNumber_4 : decode cX7_writesNumber 4 = .ok (.aload_n 0, 1) := dk_42 (dk_at dksX7_writesNumber_0 4 rfl rfl)
theorem dX7_writesNumber_5 : decode cX7_writesNumber 5 = .ok (.getfield 100, 3) := dk_180 0 100 (dk_at dksX7_writesNumber_0 5 rfl rfl)
theorem dX7_writesNumber_8 : decode cX7_writesNumber 8 = .ok (.iload_n 3, 1) := dk_29 (dk_at dksX7_writesNumber_0 8 rfl rfl)
theorem dX7_writesNumber_9 : decode cX7_writesNumber 9 = .ok (.bipush 48, 2) := dk_16 48 (dk_at dksX7_writesNumber_0 9 rfl rfl)
theorem dX7_writesNumber_11 : decode cX7_writesNumber 11 = .ok (.iload_n 2, 1) := dk_28 (dk_at dksX7_writesNumber_0 11 rfl rfl)
theorem dX7_writesNumber_12 : decode cX7_writesNumber 12 = .ok (.bipush 10, 2) := dk_16 10 (dk_at dksX7_writesNumber_0 12 rfl rfl)
theorem dX7_writesNumber_14 : decode cX7_writesNumber 14 = .ok (.irem, 1) := dk_112 (dk_at dksX7_writesNumber_0 14 rfl rfl)
theorem dX7_writesNumber_15 : decode cX7_writesNumber 15 = .ok (.iadd, 1) := dk_96 (dk_at dksX7_writesNumber_0 15 rfl rfl)
theorem dX7_writesNumber_16 : decode cX7_writesNumber 16 = .ok (.i2b, 1) := dk_145 (dk_at dksX7_writesNumber_0 16 rfl rfl)
theorem dX7_writesNumber_17 : decode cX7_writesNumber 17 = .ok (.bastore, 1) := dk_84 (dk_at dksX7_writesNumber_0 17 rfl rfl)
theorem dX7_writesNumber_18 : decode cX7_writesNumber 18 = .ok (.iload_n 2, 1) := dk_28 (dk_at dksX7_writesNumber_0 18 rfl rfl)
theorem dX7_writesNumber_19 : decode cX7_writesNumber 19 = .ok (.bipush 10, 2) := dk_16 10 (dk_at dksX7_writesNumber_0 19 rfl rfl)
theorem dX7_writesNumber_21 : decode cX7_writesNumber 21 = .ok (.idiv, 1) := dk_108 (dk_at dksX7_writesNumber_0 21 rfl rfl)
theorem dX7_writesNumber_22 : decode cX7_writesNumber 22 = .ok (.istore_n 2, 1) := dk_61 (dk_at dksX7_writesNumber_0 22 rfl rfl)
theorem dX7_writesNumber_23 : decode cX7_writesNumber 23 = .ok (.iinc 3 1, 3) := dk_132 3 1 (dk_at dksX7_writesNumber_1 0 rfl rfl)
theorem dX7_writesNumber_26 : decode cX7_writesNumber 26 = .ok (.iload_n 2, 1) := dk_28 (dk_at dksX7_writesNumber_1 3 rfl rfl)
theorem dX7_writesNumber_27 : decode cX7_writesNumber 27 = .ok (.ifCond .gt (-23), 3) := dk_157 255 233 (dk_at dksX7_writesNumber_1 4 rfl rfl)
theorem dX7_writesNumber_30 : decode cX7_writesNumber 30 = .ok (.iload_n 3, 1) := dk_29 (dk_at dksX7_writesNumber_1 7 rfl rfl)
theorem dX7_writesNumber_31 : decode cX7_writesNumber 31 = .ok (.iconst 1, 1) := dk_4 (dk_at dksX7_writesNumber_1 8 rfl rfl)
theorem dX7_writesNumber_32 : decode cX7_writesNumber 32 = .ok (.isub, 1) := dk_100 (dk_at dksX7_writesNumber_1 9 rfl rfl)
theorem dX7_writesNumber_33 : decode cX7_writesNumber 33 = .ok (.istore 4, 2) := dk_54 4 (dk_at dksX7_writesNumber_1 10 rfl rfl)
theorem dX7_writesNumber_35 : decode cX7_writesNumber 35 = .ok (.iload 4, 2) := dk_21 4 (dk_at dksX7_writesNumber_1 12 rfl rfl)
theorem dX7_writesNumber_37 : decode cX7_writesNumber 37 = .ok (.ifCond .lt 20, 3) := dk_155 0 20 (dk_at dksX7_writesNumber_1 14 rfl rfl)
theorem dX7_writesNumber_40 : decode cX7_writesNumber 40 = .ok (.aload_n 0, 1) := dk_42 (dk_at dksX7_writesNumber_1 17 rfl rfl)
theorem dX7_writesNumber_41 : decode cX7_writesNumber 41 = .ok (.aload_n 0, 1) := dk_42 (dk_at dksX7_writesNumber_1 18 rfl rfl)
theorem dX7_writesNumber_42 : decode cX7_writesNumber 42 = .ok (.getfield 100, 3) := dk_180 0 100 (dk_at dksX7_writesNumber_1 19 rfl rfl)
theorem dX7_writesNumber_45 : decode cX7_writesNumber 45 = .ok (.iload 4, 2) := dk_21 4 (dk_at dksX7_writesNumber_1 22 rfl rfl)
theorem dX7_writesNumber_47 : decode cX7_writesNumber 47 = .ok (.baload, 1) := dk_51 (dk_at dksX7_writesNumber_2 0 rfl rfl)
theorem dX7_writesNumber_48 : decode cX7_writesNumber 48 = .ok (.invokevirtual 430, 3) := dk_182 1 174 (dk_at dksX7_writesNumber_2 1 rfl rfl)
theorem dX7_writesNumber_51 : decode cX7_writesNumber 51 = .ok (.iinc 4 (-1), 3) := dk_132 4 255 (dk_at dksX7_writesNumber_2 4 rfl rfl)
theorem dX7_writesNumber_54 : decode cX7_writesNumber 54 = .ok (.goto (-19), 3) := dk_167 255 237 (dk_at dksX7_writesNumber_2 7 rfl rfl)
theorem dX7_writesNumber_57 : decode cX7_writesNumber 57 = .ok (.return_, 1) := dk_177 (dk_at dksX7_writesNumber_2 10 rfl rfl)
abbrev cX7_sign : ByteArray := prog_32_method_103_code
def yX7_sign : MethodName := ⟨RX7, "sign", "(I)I"⟩
def dkwX7_sign_1 : List UInt8 := [172]
abbrev dktX7_sign_1 : List UInt8 := dkwX7_sign_1 ++ []
def dkwX7_sign_0 : List UInt8 := [27, 3, 42, 180, 1, 171, 4, 100, 184, 0, 18, 153, 0, 12, 42, 180, 0, 97, 27, 51, 167, 0, 4, 2]
abbrev dktX7_sign_0 : List UInt8 := dkwX7_sign_0 ++ dktX7_sign_1
theorem dksX7_sign_0 : cX7_sign.data.toList.drop 0 = dktX7_sign_0 := by decide +kernel
theorem dksX7_sign_1 : cX7_sign.data.toList.drop 24 = dktX7_sign_1 := dk_seg dksX7_sign_0 24 rfl rfl
theorem dX7_sign_0 : decode cX7_sign 0 = .ok (.iload_n 1, 1) := dk_27 (dk_at dksX7_sign_0 0 rfl rfl)
theorem dX7_sign_1 : decode cX7_sign 1 = .ok (.iconst 0, 1) := dk_3 (dk_at dksX7_sign_0 1 rfl rfl)
theorem dX7_sign_2 : decode cX7_sign 2 = .ok (.aload_n 0, 1) := dk_42 (dk_at dksX7_sign_0 2 rfl rfl)
theorem dX7_sign_3 : decode cX7_sign 3 = .ok (.getfield 427, 3) := dk_180 1 171 (dk_at dksX7_sign_0 3 rfl rfl)
theorem dX7_sign_6 : decode cX7_sign 6 = .ok (.iconst 1, 1) := dk_4 (dk_at dksX7_sign_0 6 rfl rfl)
theorem dX7_sign_7 : decode cX7_sign 7 = .ok (.isub, 1) := dk_100 (dk_at dksX7_sign_0 7 rfl rfl)
theorem dX7_sign_8 : decode cX7_sign 8 = .ok (.invokestatic 18, 3) := dk_184 0 18 (dk_at dksX7_sign_0 8 rfl rfl)
theorem dX7_sign_11 : decode cX7_sign 11 = .ok (.ifCond .eq 12, 3) := dk_153 0 12 (dk_at dksX7_sign_0 11 rfl rfl)
theorem dX7_sign_14 : decode cX7_sign 14 = .ok (.aload_n 0, 1) := dk_42 (dk_at dksX7_sign_0 14 rfl rfl)
theorem dX7_sign_15 : decode cX7_sign 15 = .ok (.getfield 97, 3) := dk_180 0 97 (dk_at dksX7_sign_0 15 rfl rfl)
theorem dX7_sign_18 : decode cX7_sign 18 = .ok (.iload_n 1, 1) := dk_27 (dk_at dksX7_sign_0 18 rfl rfl)
theorem dX7_sign_19 : decode cX7_sign 19 = .ok (.baload, 1) := dk_51 (dk_at dksX7_sign_0 19 rfl rfl)
theorem dX7_sign_20 : decode cX7_sign 20 = .ok (.goto 4, 3) := dk_167 0 4 (dk_at dksX7_sign_0 20 rfl rfl)
theorem dX7_sign_23 : decode cX7_sign 23 = .ok (.iconst (-1), 1) := dk_2 (dk_at dksX7_sign_0 23 rfl rfl)
theorem dX7_sign_24 : decode cX7_sign 24 = .ok (.ireturn, 1) := dk_172 (dk_at dksX7_sign_1 0 rfl rfl)
abbrev cX7_guess : ByteArray := prog_32_method_104_code
def yX7_guess : MethodName := ⟨RX7, "guess", "(II)I"⟩
def dkwX7_guess_3 : List UInt8 := [20, 1, 180, 148, 158, 0, 9, 19, 1, 182, 167, 0, 6, 22, 5, 136, 172]
abbrev dktX7_guess_3 : List UInt8 := dkwX7_guess_3 ++ []
def dkwX7_guess_2 : List UInt8 := [104, 21, 5, 96, 47, 97, 66, 132, 5, 1, 167, 255, 231, 33, 20, 1, 159, 109, 55, 5, 22, 5]
abbrev dktX7_guess_2 : List UInt8 := dkwX7_guess_2 ++ dktX7_guess_3
def dkwX7_guess_1 : List UInt8 := [3, 96, 47, 66, 28, 4, 96, 54, 5, 21, 5, 16, 24, 163, 0, 24, 33, 42, 180, 0, 31, 16, 25, 27]
abbrev dktX7_guess_1 : List UInt8 := dkwX7_guess_1 ++ dktX7_guess_2
def dkwX7_guess_0 : List UInt8 := [27, 184, 0, 152, 153, 0, 10, 28, 184, 1, 148, 154, 0, 5, 2, 172, 42, 180, 0, 31, 16, 25, 27, 104]
abbrev dktX7_guess_0 : List UInt8 := dkwX7_guess_0 ++ dktX7_guess_1
theorem dksX7_guess_0 : cX7_guess.data.toList.drop 0 = dktX7_guess_0 := by decide +kernel
theorem dksX7_guess_1 : cX7_guess.data.toList.drop 24 = dktX7_guess_1 := dk_seg dksX7_guess_0 24 rfl rfl
theorem dksX7_guess_2 : cX7_guess.data.toList.drop 48 = dktX7_guess_2 := dk_seg dksX7_guess_1 24 rfl rfl
theorem dksX7_guess_3 : cX7_guess.data.toList.drop 70 = dktX7_guess_3 := dk_seg dksX7_guess_2 22 rfl rfl
theorem dX7_guess_0 : decode cX7_guess 0 = .ok (.iload_n 1, 1) := dk_27 (dk_at dksX7_guess_0 0 rfl rfl)
theorem dX7_guess_1 : decode cX7_guess 1 = .ok (.invokestatic 152, 3) := dk_184 0 152 (dk_at dksX7_guess_0 1 rfl rfl)
theorem dX7_guess_4 : decode cX7_guess 4 = .ok (.ifCond .eq 10, 3) := dk_153 0 10 (dk_at dksX7_guess_0 4 rfl rfl)
theorem dX7_guess_7 : decode cX7_guess 7 = .ok (.iload_n 2, 1) := dk_28 (dk_at dksX7_guess_0 7 rfl rfl)
theorem dX7_guess_8 : decode cX7_guess 8 = .ok (.invokestatic 404, 3) := dk_184 1 148 (dk_at dksX7_guess_0 8 rfl rfl)
theorem dX7_guess_11 : decode cX7_guess 11 = .ok (.ifCond .ne 5, 3) := dk_154 0 5 (dk_at dksX7_guess_0 11 rfl rfl)
theorem dX7_guess_14 : decode cX7_guess 14 = .ok (.iconst (-1), 1) := dk_2 (dk_at dksX7_guess_0 14 rfl rfl)
theorem dX7_guess_15 : decode cX7_guess 15 = .ok (.ireturn, 1) := dk_172 (dk_at dksX7_guess_0 15 rfl rfl)
theorem dX7_guess_16 : decode cX7_guess 16 = .ok (.aload_n 0, 1) := dk_42 (dk_at dksX7_guess_0 16 rfl rfl)
theorem dX7_guess_17 : decode cX7_guess 17 = .ok (.getfield 31, 3) := dk_180 0 31 (dk_at dksX7_guess_0 17 rfl rfl)
theorem dX7_guess_20 : decode cX7_guess 20 = .ok (.bipush 25, 2) := dk_16 25 (dk_at dksX7_guess_0 20 rfl rfl)
theorem dX7_guess_22 : decode cX7_guess 22 = .ok (.iload_n 1, 1) := dk_27 (dk_at dksX7_guess_0 22 rfl rfl)
theorem dX7_guess_23 : decode cX7_guess 23 = .ok (.imul, 1) := dk_104 (dk_at dksX7_guess_0 23 rfl rfl)
theorem dX7_guess_24 : decode cX7_guess 24 = .ok (.iconst 0, 1) := dk_3 (dk_at dksX7_guess_1 0 rfl rfl)
theorem dX7_guess_25 : decode cX7_guess 25 = .ok (.iadd, 1) := dk_96 (dk_at dksX7_guess_1 1 rfl rfl)
theorem dX7_guess_26 : decode cX7_guess 26 = .ok (.laload, 1) := dk_47 (dk_at dksX7_guess_1 2 rfl rfl)
theorem dX7_guess_27 : decode cX7_guess 27 = .ok (.lstore_n 3, 1) := dk_66 (dk_at dksX7_guess_1 3 rfl rfl)
theorem dX7_guess_28 : decode cX7_guess 28 = .ok (.iload_n 2, 1) := dk_28 (dk_at dksX7_guess_1 4 rfl rfl)
theorem dX7_guess_29 : decode cX7_guess 29 = .ok (.iconst 1, 1) := dk_4 (dk_at dksX7_guess_1 5 rfl rfl)
theorem dX7_guess_30 : decode cX7_guess 30 = .ok (.iadd, 1) := dk_96 (dk_at dksX7_guess_1 6 rfl rfl)
theorem dX7_guess_31 : decode cX7_guess 31 = .ok (.istore 5, 2) := dk_54 5 (dk_at dksX7_guess_1 7 rfl rfl)
theorem dX7_guess_33 : decode cX7_guess 33 = .ok (.iload 5, 2) := dk_21 5 (dk_at dksX7_guess_1 9 rfl rfl)
theorem dX7_guess_35 : decode cX7_guess 35 = .ok (.bipush 24, 2) := dk_16 24 (dk_at dksX7_guess_1 11 rfl rfl)
theorem dX7_guess_37 : decode cX7_guess 37 = .ok (.if_icmp .gt 24, 3) := dk_163 0 24 (dk_at dksX7_guess_1 13 rfl rfl)
theorem dX7_guess_40 : decode cX7_guess 40 = .ok (.lload_n 3, 1) := dk_33 (dk_at dksX7_guess_1 16 rfl rfl)
theorem dX7_guess_41 : decode cX7_guess 41 = .ok (.aload_n 0, 1) := dk_42 (dk_at dksX7_guess_1 17 rfl rfl)
theorem dX7_guess_42 : decode cX7_guess 42 = .ok (.getfield 31, 3) := dk_180 0 31 (dk_at dksX7_guess_1 18 rfl rfl)
theorem dX7_guess_45 : decode cX7_guess 45 = .ok (.bipush 25, 2) := dk_16 25 (dk_at dksX7_guess_1 21 rfl rfl)
theorem dX7_guess_47 : decode cX7_guess 47 = .ok (.iload_n 1, 1) := dk_27 (dk_at dksX7_guess_1 23 rfl rfl)
theorem dX7_guess_48 : decode cX7_guess 48 = .ok (.imul, 1) := dk_104 (dk_at dksX7_guess_2 0 rfl rfl)
theorem dX7_guess_49 : decode cX7_guess 49 = .ok (.iload 5, 2) := dk_21 5 (dk_at dksX7_guess_2 1 rfl rfl)
theorem dX7_guess_51 : decode cX7_guess 51 = .ok (.iadd, 1) := dk_96 (dk_at dksX7_guess_2 3 rfl rfl)
theorem dX7_guess_52 : decode cX7_guess 52 = .ok (.laload, 1) := dk_47 (dk_at dksX7_guess_2 4 rfl rfl)
theorem dX7_guess_53 : decode cX7_guess 53 = .ok (.ladd, 1) := dk_97 (dk_at dksX7_guess_2 5 rfl rfl)
theorem dX7_guess_54 : decode cX7_guess 54 = .ok (.lstore_n 3, 1) := dk_66 (dk_at dksX7_guess_2 6 rfl rfl)
theorem dX7_guess_55 : decode cX7_guess 55 = .ok (.iinc 5 1, 3) := dk_132 5 1 (dk_at dksX7_guess_2 7 rfl rfl)
theorem dX7_guess_58 : decode cX7_guess 58 = .ok (.goto (-25), 3) := dk_167 255 231 (dk_at dksX7_guess_2 10 rfl rfl)
theorem dX7_guess_61 : decode cX7_guess 61 = .ok (.lload_n 3, 1) := dk_33 (dk_at dksX7_guess_2 13 rfl rfl)
theorem dX7_guess_62 : decode cX7_guess 62 = .ok (.ldc2_w 415, 3) := dk_20 1 159 (dk_at dksX7_guess_2 14 rfl rfl)
theorem dX7_guess_65 : decode cX7_guess 65 = .ok (.ldiv, 1) := dk_109 (dk_at dksX7_guess_2 17 rfl rfl)
theorem dX7_guess_66 : decode cX7_guess 66 = .ok (.lstore 5, 2) := dk_55 5 (dk_at dksX7_guess_2 18 rfl rfl)
theorem dX7_guess_68 : decode cX7_guess 68 = .ok (.lload 5, 2) := dk_22 5 (dk_at dksX7_guess_2 20 rfl rfl)
theorem dX7_guess_70 : decode cX7_guess 70 = .ok (.ldc2_w 436, 3) := dk_20 1 180 (dk_at dksX7_guess_3 0 rfl rfl)
theorem dX7_guess_73 : decode cX7_guess 73 = .ok (.lcmp, 1) := dk_148 (dk_at dksX7_guess_3 3 rfl rfl)
theorem dX7_guess_74 : decode cX7_guess 74 = .ok (.ifCond .le 9, 3) := dk_158 0 9 (dk_at dksX7_guess_3 4 rfl rfl)
theorem dX7_guess_77 : decode cX7_guess 77 = .ok (.ldc_w 438, 3) := dk_19 1 182 (dk_at dksX7_guess_3 7 rfl rfl)
theorem dX7_guess_80 : decode cX7_guess 80 = .ok (.goto 6, 3) := dk_167 0 6 (dk_at dksX7_guess_3 10 rfl rfl)
theorem dX7_guess_83 : decode cX7_guess 83 = .ok (.lload 5, 2) := dk_22 5 (dk_at dksX7_guess_3 13 rfl rfl)
theorem dX7_guess_85 : decode cX7_guess 85 = .ok (.l2i, 1) := dk_136 (dk_at dksX7_guess_3 15 rfl rfl)
theorem dX7_guess_86 : decode cX7_guess 86 = .ok (.ireturn, 1) := dk_172 (dk_at dksX7_guess_3 16 rfl rfl)
abbrev cX7_salted : ByteArray := prog_32_method_105_code
def yX7_salted : MethodName := ⟨RX7, "salted", "(II)I"⟩
def dkwX7_salted_4 : List UInt8 := [132, 6, 1, 167, 255, 224, 132, 4, 1, 167, 255, 179, 29, 172]
abbrev dktX7_salted_4 : List UInt8 := dkwX7_salted_4 ++ []
def dkwX7_salted_3 : List UInt8 := [162, 0, 30, 29, 21, 5, 21, 6, 96, 17, 3, 232, 112, 28, 162, 0, 7, 4, 167, 0, 4, 3, 96, 62]
abbrev dktX7_salted_3 : List UInt8 := dkwX7_salted_3 ++ dktX7_salted_4
def dkwX7_salted_2 : List UInt8 := [180, 0, 28, 27, 16, 59, 21, 4, 96, 184, 0, 142, 46, 104, 54, 5, 3, 54, 6, 21, 6, 17, 3, 232]
abbrev dktX7_salted_2 : List UInt8 := dkwX7_salted_2 ++ dktX7_salted_3
def dkwX7_salted_1 : List UInt8 := [54, 4, 21, 4, 42, 180, 0, 28, 27, 16, 59, 184, 0, 142, 46, 163, 0, 67, 17, 2, 105, 42]
abbrev dktX7_salted_1 : List UInt8 := dkwX7_salted_1 ++ dktX7_salted_2
def dkwX7_salted_0 : List UInt8 := [27, 184, 0, 152, 153, 0, 14, 28, 4, 17, 3, 232, 184, 0, 18, 154, 0, 5, 2, 172, 3, 62, 4]
abbrev dktX7_salted_0 : List UInt8 := dkwX7_salted_0 ++ dktX7_salted_1
theorem dksX7_salted_0 : cX7_salted.data.toList.drop 0 = dktX7_salted_0 := by decide +kernel
theorem dksX7_salted_1 : cX7_salted.data.toList.drop 23 = dktX7_salted_1 := dk_seg dksX7_salted_0 23 rfl rfl
theorem dksX7_salted_2 : cX7_salted.data.toList.drop 45 = dktX7_salted_2 := dk_seg dksX7_salted_1 22 rfl rfl
theorem dksX7_salted_3 : cX7_salted.data.toList.drop 69 = dktX7_salted_3 := dk_seg dksX7_salted_2 24 rfl rfl
theorem dksX7_salted_4 : cX7_salted.data.toList.drop 93 = dktX7_salted_4 := dk_seg dksX7_salted_3 24 rfl rfl
theorem dX7_salted_0 : decode cX7_salted 0 = .ok (.iload_n 1, 1) := dk_27 (dk_at dksX7_salted_0 0 rfl rfl)
theorem dX7_salted_1 : decode cX7_salted 1 = .ok (.invokestatic 152, 3) := dk_184 0 152 (dk_at dksX7_salted_0 1 rfl rfl)
theorem dX7_salted_4 : decode cX7_salted 4 = .ok (.ifCond .eq 14, 3) := dk_153 0 14 (dk_at dksX7_salted_0 4 rfl rfl)
theorem dX7_salted_7 : decode cX7_salted 7 = .ok (.iload_n 2, 1) := dk_28 (dk_at dksX7_salted_0 7 rfl rfl)
theorem dX7_salted_8 : decode cX7_salted 8 = .ok (.iconst 1, 1) := dk_4 (dk_at dksX7_salted_0 8 rfl rfl)
theorem dX7_salted_9 : decode cX7_salted 9 = .ok (.sipush 1000, 3) := dk_17 3 232 (dk_at dksX7_salted_0 9 rfl rfl)
theorem dX7_salted_12 : decode cX7_salted 12 = .ok (.invokestatic 18, 3) := dk_184 0 18 (dk_at dksX7_salted_0 12 rfl rfl)
theorem dX7_salted_15 : decode cX7_salted 15 = .ok (.ifCond .ne 5, 3) := dk_154 0 5 (dk_at dksX7_salted_0 15 rfl rfl)
theorem dX7_salted_18 : decode cX7_salted 18 = .ok (.iconst (-1), 1) := dk_2 (dk_at dksX7_salted_0 18 rfl rfl)
theorem dX7_salted_19 : decode cX7_salted 19 = .ok (.ireturn, 1) := dk_172 (dk_at dksX7_salted_0 19 rfl rfl)
theorem dX7_salted_20 : decode cX7_salted 20 = .ok (.iconst 0, 1) := dk_3 (dk_at dksX7_salted_0 20 rfl rfl)
theorem dX7_salted_21 : decode cX7_salted 21 = .ok (.istore_n 3, 1) := dk_62 (dk_at dksX7_salted_0 21 rfl rfl)
theorem dX7_salted_22 : decode cX7_salted 22 = .ok (.iconst 1, 1) := dk_4 (dk_at dksX7_salted_0 22 rfl rfl)
theorem dX7_salted_23 : decode cX7_salted 23 = .ok (.istore 4, 2) := dk_54 4 (dk_at dksX7_salted_1 0 rfl rfl)
theorem dX7_salted_25 : decode cX7_salted 25 = .ok (.iload 4, 2) := dk_21 4 (dk_at dksX7_salted_1 2 rfl rfl)
theorem dX7_salted_27 : decode cX7_salted 27 = .ok (.aload_n 0, 1) := dk_42 (dk_at dksX7_salted_1 4 rfl rfl)
theorem dX7_salted_28 : decode cX7_salted 28 = .ok (.getfield 28, 3) := dk_180 0 28 (dk_at dksX7_salted_1 5 rfl rfl)
theorem dX7_salted_31 : decode cX7_salted 31 = .ok (.iload_n 1, 1) := dk_27 (dk_at dksX7_salted_1 8 rfl rfl)
theorem dX7_salted_32 : decode cX7_salted 32 = .ok (.bipush 59, 2) := dk_16 59 (dk_at dksX7_salted_1 9 rfl rfl)
theorem dX7_salted_34 : decode cX7_salted 34 = .ok (.invokestatic 142, 3) := dk_184 0 142 (dk_at dksX7_salted_1 11 rfl rfl)
theorem dX7_salted_37 : decode cX7_salted 37 = .ok (.iaload, 1) := dk_46 (dk_at dksX7_salted_1 14 rfl rfl)
theorem dX7_salted_38 : decode cX7_salted 38 = .ok (.if_icmp .gt 67, 3) := dk_163 0 67 (dk_at dksX7_salted_1 15 rfl rfl)
theorem dX7_salted_41 : decode cX7_salted 41 = .ok (.sipush 617, 3) := dk_17 2 105 (dk_at dksX7_salted_1 18 rfl rfl)
theorem dX7_salted_44 : decode cX7_salted 44 = .ok (.aload_n 0, 1) := dk_42 (dk_at dksX7_salted_1 21 rfl rfl)
theorem dX7_salted_45 : decode cX7_salted 45 = .ok (.getfield 28, 3) := dk_180 0 28 (dk_at dksX7_salted_2 0 rfl rfl)
theorem dX7_salted_48 : decode cX7_salted 48 = .ok (.iload_n 1, 1) := dk_27 (dk_at dksX7_salted_2 3 rfl rfl)
theorem dX7_salted_49 : decode cX7_salted 49 = .ok (.bipush 59, 2) := dk_16 59 (dk_at dksX7_salted_2 4 rfl rfl)
theorem dX7_salted_51 : decode cX7_salted 51 = .ok (.iload 4, 2) := dk_21 4 (dk_at dksX7_salted_2 6 rfl rfl)
theorem dX7_salted_53 : decode cX7_salted 53 = .ok (.iadd, 1) := dk_96 (dk_at dksX7_salted_2 8 rfl rfl)
theorem dX7_salted_54 : decode cX7_salted 54 = .ok (.invokestatic 142, 3) := dk_184 0 142 (dk_at dksX7_salted_2 9 rfl rfl)
theorem dX7_salted_57 : decode cX7_salted 57 = .ok (.iaload, 1) := dk_46 (dk_at dksX7_salted_2 12 rfl rfl)
theorem dX7_salted_58 : decode cX7_salted 58 = .ok (.imul, 1) := dk_104 (dk_at dksX7_salted_2 13 rfl rfl)
theorem dX7_salted_59 : decode cX7_salted 59 = .ok (.istore 5, 2) := dk_54 5 (dk_at dksX7_salted_2 14 rfl rfl)
theorem dX7_salted_61 : decode cX7_salted 61 = .ok (.iconst 0, 1) := dk_3 (dk_at dksX7_salted_2 16 rfl rfl)
theorem dX7_salted_62 : decode cX7_salted 62 = .ok (.istore 6, 2) := dk_54 6 (dk_at dksX7_salted_2 17 rfl rfl)
theorem dX7_salted_64 : decode cX7_salted 64 = .ok (.iload 6, 2) := dk_21 6 (dk_at dksX7_salted_2 19 rfl rfl)
theorem dX7_salted_66 : decode cX7_salted 66 = .ok (.sipush 1000, 3) := dk_17 3 232 (dk_at dksX7_salted_2 21 rfl rfl)
theorem dX7_salted_69 : decode cX7_salted 69 = .ok (.if_icmp .ge 30, 3) := dk_162 0 30 (dk_at dksX7_salted_3 0 rfl rfl)
theorem dX7_salted_72 : decode cX7_salted 72 = .ok (.iload_n 3, 1) := dk_29 (dk_at dksX7_salted_3 3 rfl rfl)
theorem dX7_salted_73 : decode cX7_salted 73 = .ok (.iload 5, 2) := dk_21 5 (dk_at dksX7_salted_3 4 rfl rfl)
theorem dX7_salted_75 : decode cX7_salted 75 = .ok (.iload 6, 2) := dk_21 6 (dk_at dksX7_salted_3 6 rfl rfl)
theorem dX7_salted_77 : decode cX7_salted 77 = .ok (.iadd, 1) := dk_96 (dk_at dksX7_salted_3 8 rfl rfl)
theorem dX7_salted_78 : decode cX7_salted 78 = .ok (.sipush 1000, 3) := dk_17 3 232 (dk_at dksX7_salted_3 9 rfl rfl)
theorem dX7_salted_81 : decode cX7_salted 81 = .ok (.irem, 1) := dk_112 (dk_at dksX7_salted_3 12 rfl rfl)
theorem dX7_salted_82 : decode cX7_salted 82 = .ok (.iload_n 2, 1) := dk_28 (dk_at dksX7_salted_3 13 rfl rfl)
theorem dX7_salted_83 : decode cX7_salted 83 = .ok (.if_icmp .ge 7, 3) := dk_162 0 7 (dk_at dksX7_salted_3 14 rfl rfl)
theorem dX7_salted_86 : decode cX7_salted 86 = .ok (.iconst 1, 1) := dk_4 (dk_at dksX7_salted_3 17 rfl rfl)
theorem dX7_salted_87 : decode cX7_salted 87 = .ok (.goto 4, 3) := dk_167 0 4 (dk_at dksX7_salted_3 18 rfl rfl)
theorem dX7_salted_90 : decode cX7_salted 90 = .ok (.iconst 0, 1) := dk_3 (dk_at dksX7_salted_3 21 rfl rfl)
theorem dX7_salted_91 : decode cX7_salted 91 = .ok (.iadd, 1) := dk_96 (dk_at dksX7_salted_3 22 rfl rfl)
theorem dX7_salted_92 : decode cX7_salted 92 = .ok (.istore_n 3, 1) := dk_62 (dk_at dksX7_salted_3 23 rfl rfl)
theorem dX7_salted_93 : decode cX7_salted 93 = .ok (.iinc 6 1, 3) := dk_132 6 1 (dk_at dksX7_salted_4 0 rfl rfl)
theorem dX7_salted_96 : decode cX7_salted 96 = .ok (.goto (-32), 3) := dk_167 255 224 (dk_at dksX7_salted_4 3 rfl rfl)
theorem dX7_salted_99 : decode cX7_salted 99 = .ok (.iinc 4 1, 3) := dk_132 4 1 (dk_at dksX7_salted_4 6 rfl rfl)
theorem dX7_salted_102 : decode cX7_salted 102 = .ok (.goto (-77), 3) := dk_167 255 179 (dk_at dksX7_salted_4 9 rfl rfl)
theorem dX7_salted_105 : decode cX7_salted 105 = .ok (.iload_n 3, 1) := dk_29 (dk_at dksX7_salted_4 12 rfl rfl)
theorem dX7_salted_106 : decode cX7_salted 106 = .ok (.ireturn, 1) := dk_172 (dk_at dksX7_salted_4 13 rfl rfl)
abbrev cX7_share : ByteArray := prog_32_method_107_code
def yX7_share : MethodName := ⟨RX7, "share", "(II)I"⟩
def dkwX7_share_3 : List UInt8 := [180, 0, 103, 28, 46, 172]
abbrev dktX7_share_3 : List UInt8 := dkwX7_share_3 ++ []
def dkwX7_share_2 : List UInt8 := [27, 162, 0, 22, 42, 180, 0, 103, 42, 182, 1, 190, 92, 46, 4, 96, 79, 132, 3, 1, 167, 255, 235, 42]
abbrev dktX7_share_2 : List UInt8 := dkwX7_share_2 ++ dktX7_share_3
def dkwX7_share_1 : List UInt8 := [162, 0, 21, 42, 29, 182, 1, 168, 42, 180, 0, 103, 29, 3, 79, 132, 3, 1, 167, 255, 236, 3, 62, 29]
abbrev dktX7_share_1 : List UInt8 := dkwX7_share_1 ++ dktX7_share_2
def dkwX7_share_0 : List UInt8 := [27, 3, 16, 48, 184, 0, 18, 153, 0, 10, 28, 184, 0, 152, 154, 0, 5, 2, 172, 3, 62, 29, 7]
abbrev dktX7_share_0 : List UInt8 := dkwX7_share_0 ++ dktX7_share_1
theorem dksX7_share_0 : cX7_share.data.toList.drop 0 = dktX7_share_0 := by decide +kernel
theorem dksX7_share_1 : cX7_share.data.toList.drop 23 = dktX7_share_1 := dk_seg dksX7_share_0 23 rfl rfl
theorem dksX7_share_2 : cX7_share.data.toList.drop 47 = dktX7_share_2 := dk_seg dksX7_share_1 24 rfl rfl
theorem dksX7_share_3 : cX7_share.data.toList.drop 71 = dktX7_share_3 := dk_seg dksX7_share_2 24 rfl rfl
theorem dX7_share_0 : decode cX7_share 0 = .ok (.iload_n 1, 1) := dk_27 (dk_at dksX7_share_0 0 rfl rfl)
theorem dX7_share_1 : decode cX7_share 1 = .ok (.iconst 0, 1) := dk_3 (dk_at dksX7_share_0 1 rfl rfl)
theorem dX7_share_2 : decode cX7_share 2 = .ok (.bipush 48, 2) := dk_16 48 (dk_at dksX7_share_0 2 rfl rfl)
theorem dX7_share_4 : decode cX7_share 4 = .ok (.invokestatic 18, 3) := dk_184 0 18 (dk_at dksX7_share_0 4 rfl rfl)
theorem dX7_share_7 : decode cX7_share 7 = .ok (.ifCond .eq 10, 3) := dk_153 0 10 (dk_at dksX7_share_0 7 rfl rfl)
theorem dX7_share_10 : decode cX7_share 10 = .ok (.iload_n 2, 1) := dk_28 (dk_at dksX7_share_0 10 rfl rfl)
theorem dX7_share_11 : decode cX7_share 11 = .ok (.invokestatic 152, 3) := dk_184 0 152 (dk_at dksX7_share_0 11 rfl rfl)
theorem dX7_share_14 : decode cX7_share 14 = .ok (.ifCond .ne 5, 3) := dk_154 0 5 (dk_at dksX7_share_0 14 rfl rfl)
theorem dX7_share_17 : decode cX7_share 17 = .ok (.iconst (-1), 1) := dk_2 (dk_at dksX7_share_0 17 rfl rfl)
theorem dX7_share_18 : decode cX7_share 18 = .ok (.ireturn, 1) := dk_172 (dk_at dksX7_share_0 18 rfl rfl)
theorem dX7_share_19 : decode cX7_share 19 = .ok (.iconst 0, 1) := dk_3 (dk_at dksX7_share_0 19 rfl rfl)
theorem dX7_share_20 : decode cX7_share 20 = .ok (.istore_n 3, 1) := dk_62 (dk_at dksX7_share_0 20 rfl rfl)
theorem dX7_share_21 : decode cX7_share 21 = .ok (.iload_n 3, 1) := dk_29 (dk_at dksX7_share_0 21 rfl rfl)
theorem dX7_share_22 : decode cX7_share 22 = .ok (.iconst 4, 1) := dk_7 (dk_at dksX7_share_0 22 rfl rfl)
theorem dX7_share_23 : decode cX7_share 23 = .ok (.if_icmp .ge 21, 3) := dk_162 0 21 (dk_at dksX7_share_1 0 rfl rfl)
theorem dX7_share_26 : decode cX7_share 26 = .ok (.aload_n 0, 1) := dk_42 (dk_at dksX7_share_1 3 rfl rfl)
theorem dX7_share_27 : decode cX7_share 27 = .ok (.iload_n 3, 1) := dk_29 (dk_at dksX7_share_1 4 rfl rfl)
theorem dX7_share_28 : decode cX7_share 28 = .ok (.invokevirtual 424, 3) := dk_182 1 168 (dk_at dksX7_share_1 5 rfl rfl)
theorem dX7_share_31 : decode cX7_share 31 = .ok (.aload_n 0, 1) := dk_42 (dk_at dksX7_share_1 8 rfl rfl)
theorem dX7_share_32 : decode cX7_share 32 = .ok (.getfield 103, 3) := dk_180 0 103 (dk_at dksX7_share_1 9 rfl rfl)
theorem dX7_share_35 : decode cX7_share 35 = .ok (.iload_n 3, 1) := dk_29 (dk_at dksX7_share_1 12 rfl rfl)
theorem dX7_share_36 : decode cX7_share 36 = .ok (.iconst 0, 1) := dk_3 (dk_at dksX7_share_1 13 rfl rfl)
theorem dX7_share_37 : decode cX7_share 37 = .ok (.iastore, 1) := dk_79 (dk_at dksX7_share_1 14 rfl rfl)
theorem dX7_share_38 : decode cX7_share 38 = .ok (.iinc 3 1, 3) := dk_132 3 1 (dk_at dksX7_share_1 15 rfl rfl)
theorem dX7_share_41 : decode cX7_share 41 = .ok (.goto (-20), 3) := dk_167 255 236 (dk_at dksX7_share_1 18 rfl rfl)
theorem dX7_share_44 : decode cX7_share 44 = .ok (.iconst 0, 1) := dk_3 (dk_at dksX7_share_1 21 rfl rfl)
theorem dX7_share_45 : decode cX7_share 45 = .ok (.istore_n 3, 1) := dk_62 (dk_at dksX7_share_1 22 rfl rfl)
theorem dX7_share_46 : decode cX7_share 46 = .ok (.iload_n 3, 1) := dk_29 (dk_at dksX7_share_1 23 rfl rfl)
theorem dX7_share_47 : decode cX7_share 47 = .ok (.iload_n 1, 1) := dk_27 (dk_at dksX7_share_2 0 rfl rfl)
theorem dX7_share_48 : decode cX7_share 48 = .ok (.if_icmp .ge 22, 3) := dk_162 0 22 (dk_at dksX7_share_2 1 rfl rfl)
theorem dX7_share_51 : decode cX7_share 51 = .ok (.aload_n 0, 1) := dk_42 (dk_at dksX7_share_2 4 rfl rfl)
theorem dX7_share_52 : decode cX7_share 52 = .ok (.getfield 103, 3) := dk_180 0 103 (dk_at dksX7_share_2 5 rfl rfl)
theorem dX7_share_55 : decode cX7_share 55 = .ok (.aload_n 0, 1) := dk_42 (dk_at dksX7_share_2 8 rfl rfl)
theorem dX7_share_56 : decode cX7_share 56 = .ok (.invokevirtual 446, 3) := dk_182 1 190 (dk_at dksX7_share_2 9 rfl rfl)
theorem dX7_share_59 : decode cX7_share 59 = .ok (.dup2, 1) := dk_92 (dk_at dksX7_share_2 12 rfl rfl)
theorem dX7_share_60 : decode cX7_share 60 = .ok (.iaload, 1) := dk_46 (dk_at dksX7_share_2 13 rfl rfl)
theorem dX7_share_61 : decode cX7_share 61 = .ok (.iconst 1, 1) := dk_4 (dk_at dksX7_share_2 14 rfl rfl)
theorem dX7_share_62 : decode cX7_share 62 = .ok (.iadd, 1) := dk_96 (dk_at dksX7_share_2 15 rfl rfl)
theorem dX7_share_63 : decode cX7_share 63 = .ok (.iastore, 1) := dk_79 (dk_at dksX7_share_2 16 rfl rfl)
theorem dX7_share_64 : decode cX7_share 64 = .ok (.iinc 3 1, 3) := dk_132 3 1 (dk_at dksX7_share_2 17 rfl rfl)
theorem dX7_share_67 : decode cX7_share 67 = .ok (.goto (-21), 3) := dk_167 255 235 (dk_at dksX7_share_2 20 rfl rfl)
theorem dX7_share_70 : decode cX7_share 70 = .ok (.aload_n 0, 1) := dk_42 (dk_at dksX7_share_2 23 rfl rfl)
theorem dX7_share_71 : decode cX7_share 71 = .ok (.getfield 103, 3) := dk_180 0 103 (dk_at dksX7_share_3 0 rfl rfl)
theorem dX7_share_74 : decode cX7_share 74 = .ok (.iload_n 2, 1) := dk_28 (dk_at dksX7_share_3 3 rfl rfl)
theorem dX7_share_75 : decode cX7_share 75 = .ok (.iaload, 1) := dk_46 (dk_at dksX7_share_3 4 rfl rfl)
theorem dX7_share_76 : decode cX7_share 76 = .ok (.ireturn, 1) := dk_172 (dk_at dksX7_share_3 5 rfl rfl)
abbrev cX7_whoGets : ByteArray := prog_32_method_108_code
def yX7_whoGets : MethodName := ⟨RX7, "whoGets", "()I"⟩
def dkwX7_whoGets_4 : List UInt8 := [172]
abbrev dktX7_whoGets_4 : List UInt8 := dkwX7_whoGets_4 ++ []
def dkwX7_whoGets_3 : List UInt8 := [167, 0, 17, 21, 5, 60, 42, 180, 1, 183, 65, 42, 180, 1, 187, 54, 4, 132, 5, 1, 167, 255, 178, 27]
abbrev dktX7_whoGets_3 : List UInt8 := dkwX7_whoGets_3 ++ dktX7_whoGets_4
def dkwX7_whoGets_2 : List UInt8 := [159, 0, 25, 42, 180, 1, 183, 21, 4, 133, 105, 32, 42, 180, 1, 187, 133, 105, 148, 157, 0, 6]
abbrev dktX7_whoGets_2 : List UInt8 := dkwX7_whoGets_2 ++ dktX7_whoGets_3
def dkwX7_whoGets_1 : List UInt8 := [16, 24, 160, 0, 6, 167, 0, 57, 42, 21, 5, 42, 180, 0, 103, 21, 5, 46, 182, 1, 193, 27, 2]
abbrev dktX7_whoGets_1 : List UInt8 := dkwX7_whoGets_1 ++ dktX7_whoGets_2
def dkwX7_whoGets_0 : List UInt8 := [2, 60, 9, 65, 4, 54, 4, 3, 54, 5, 21, 5, 7, 162, 0, 78, 42, 180, 0, 103, 21, 5, 46]
abbrev dktX7_whoGets_0 : List UInt8 := dkwX7_whoGets_0 ++ dktX7_whoGets_1
theorem dksX7_whoGets_0 : cX7_whoGets.data.toList.drop 0 = dktX7_whoGets_0 := by decide +kernel
theorem dksX7_whoGets_1 : cX7_whoGets.data.toList.drop 23 = dktX7_whoGets_1 := dk_seg dksX7_whoGets_0 23 rfl rfl
theorem dksX7_whoGets_2 : cX7_whoGets.data.toList.drop 46 = dktX7_whoGets_2 := dk_seg dksX7_whoGets_1 23 rfl rfl
theorem dksX7_whoGets_3 : cX7_whoGets.data.toList.drop 68 = dktX7_whoGets_3 := dk_seg dksX7_whoGets_2 22 rfl rfl
theorem dksX7_whoGets_4 : cX7_whoGets.data.toList.drop 92 = dktX7_whoGets_4 := dk_seg dksX7_whoGets_3 24 rfl rfl
theorem dX7_whoGets_0 : decode cX7_whoGets 0 = .ok (.iconst (-1), 1) := dk_2 (dk_at dksX7_whoGets_0 0 rfl rfl)
theorem dX7_whoGets_1 : decode cX7_whoGets 1 = .ok (.istore_n 1, 1) := dk_60 (dk_at dksX7_whoGets_0 1 rfl rfl)
theorem dX7_whoGets_2 : decode cX7_whoGets 2 = .ok (.lconst 0, 1) := dk_9 (dk_at dksX7_whoGets_0 2 rfl rfl)
theorem dX7_whoGets_3 : decode cX7_whoGets 3 = .ok (.lstore_n 2, 1) := dk_65 (dk_at dksX7_whoGets_0 3 rfl rfl)
theorem dX7_whoGets_4 : decode cX7_whoGets 4 = .ok (.iconst 1, 1) := dk_4 (dk_at dksX7_whoGets_0 4 rfl rfl)
theorem dX7_whoGets_5 : decode cX7_whoGets 5 = .ok (.istore 4, 2) := dk_54 4 (dk_at dksX7_whoGets_0 5 rfl rfl)
theorem dX7_whoGets_7 : decode cX7_whoGets 7 = .ok (.iconst 0, 1) := dk_3 (dk_at dksX7_whoGets_0 7 rfl rfl)
theorem dX7_whoGets_8 : decode cX7_whoGets 8 = .ok (.istore 5, 2) := dk_54 5 (dk_at dksX7_whoGets_0 8 rfl rfl)
theorem dX7_whoGets_10 : decode cX7_whoGets 10 = .ok (.iload 5, 2) := dk_21 5 (dk_at dksX7_whoGets_0 10 rfl rfl)
theorem dX7_whoGets_12 : decode cX7_whoGets 12 = .ok (.iconst 4, 1) := dk_7 (dk_at dksX7_whoGets_0 12 rfl rfl)
theorem dX7_whoGets_13 : decode cX7_whoGets 13 = .ok (.if_icmp .ge 78, 3) := dk_162 0 78 (dk_at dksX7_whoGets_0 13 rfl rfl)
theorem dX7_whoGets_16 : decode cX7_whoGets 16 = .ok (.aload_n 0, 1) := dk_42 (dk_at dksX7_whoGets_0 16 rfl rfl)
theorem dX7_whoGets_17 : decode cX7_whoGets 17 = .ok (.getfield 103, 3) := dk_180 0 103 (dk_at dksX7_whoGets_0 17 rfl rfl)
theorem dX7_whoGets_20 : decode cX7_whoGets 20 = .ok (.iload 5, 2) := dk_21 5 (dk_at dksX7_whoGets_0 20 rfl rfl)
theorem dX7_whoGets_22 : decode cX7_whoGets 22 = .ok (.iaload, 1) := dk_46 (dk_at dksX7_whoGets_0 22 rfl rfl)
theorem dX7_whoGets_23 : decode cX7_whoGets 23 = .ok (.bipush 24, 2) := dk_16 24 (dk_at dksX7_whoGets_1 0 rfl rfl)
theorem dX7_whoGets_25 : decode cX7_whoGets 25 = .ok (.if_icmp .ne 6, 3) := dk_160 0 6 (dk_at dksX7_whoGets_1 2 rfl rfl)
theorem dX7_whoGets_28 : decode cX7_whoGets 28 = .ok (.goto 57, 3) := dk_167 0 57 (dk_at dksX7_whoGets_1 5 rfl rfl)
theorem dX7_whoGets_31 : decode cX7_whoGets 31 = .ok (.aload_n 0, 1) := dk_42 (dk_at dksX7_whoGets_1 8 rfl rfl)
theorem dX7_whoGets_32 : decode cX7_whoGets 32 = .ok (.iload 5, 2) := dk_21 5 (dk_at dksX7_whoGets_1 9 rfl rfl)
theorem dX7_whoGets_34 : decode cX7_whoGets 34 = .ok (.aload_n 0, 1) := dk_42 (dk_at dksX7_whoGets_1 11 rfl rfl)
theorem dX7_whoGets_35 : decode cX7_whoGets 35 = .ok (.getfield 103, 3) := dk_180 0 103 (dk_at dksX7_whoGets_1 12 rfl rfl)
theorem dX7_whoGets_38 : decode cX7_whoGets 38 = .ok (.iload 5, 2) := dk_21 5 (dk_at dksX7_whoGets_1 15 rfl rfl)
theorem dX7_whoGets_40 : decode cX7_whoGets 40 = .ok (.iaload, 1) := dk_46 (dk_at dksX7_whoGets_1 17 rfl rfl)
theorem dX7_whoGets_41 : decode cX7_whoGets 41 = .ok (.invokevirtual 449, 3) := dk_182 1 193 (dk_at dksX7_whoGets_1 18 rfl rfl)
theorem dX7_whoGets_44 : decode cX7_whoGets 44 = .ok (.iload_n 1, 1) := dk_27 (dk_at dksX7_whoGets_1 21 rfl rfl)
theorem dX7_whoGets_45 : decode cX7_whoGets 45 = .ok (.iconst (-1), 1) := dk_2 (dk_at dksX7_whoGets_1 22 rfl rfl)
theorem dX7_whoGets_46 : decode cX7_whoGets 46 = .ok (.if_icmp .eq 25, 3) := dk_159 0 25 (dk_at dksX7_whoGets_2 0 rfl rfl)
theorem dX7_whoGets_49 : decode cX7_whoGets 49 = .ok (.aload_n 0, 1) := dk_42 (dk_at dksX7_whoGets_2 3 rfl rfl)
theorem dX7_whoGets_50 : decode cX7_whoGets 50 = .ok (.getfield 439, 3) := dk_180 1 183 (dk_at dksX7_whoGets_2 4 rfl rfl)
theorem dX7_whoGets_53 : decode cX7_whoGets 53 = .ok (.iload 4, 2) := dk_21 4 (dk_at dksX7_whoGets_2 7 rfl rfl)
theorem dX7_whoGets_55 : decode cX7_whoGets 55 = .ok (.i2l, 1) := dk_133 (dk_at dksX7_whoGets_2 9 rfl rfl)
theorem dX7_whoGets_56 : decode cX7_whoGets 56 = .ok (.lmul, 1) := dk_105 (dk_at dksX7_whoGets_2 10 rfl rfl)
theorem dX7_whoGets_57 : decode cX7_whoGets 57 = .ok (.lload_n 2, 1) := dk_32 (dk_at dksX7_whoGets_2 11 rfl rfl)
theorem dX7_whoGets_58 : decode cX7_whoGets 58 = .ok (.aload_n 0, 1) := dk_42 (dk_at dksX7_whoGets_2 12 rfl rfl)
theorem dX7_whoGets_59 : decode cX7_whoGets 59 = .ok (.getfield 443, 3) := dk_180 1 187 (dk_at dksX7_whoGets_2 13 rfl rfl)
theorem dX7_whoGets_62 : decode cX7_whoGets 62 = .ok (.i2l, 1) := dk_133 (dk_at dksX7_whoGets_2 16 rfl rfl)
theorem dX7_whoGets_63 : decode cX7_whoGets 63 = .ok (.lmul, 1) := dk_105 (dk_at dksX7_whoGets_2 17 rfl rfl)
theorem dX7_whoGets_64 : decode cX7_whoGets 64 = .ok (.lcmp, 1) := dk_148 (dk_at dksX7_whoGets_2 18 rfl rfl)
theorem dX7_whoGets_65 : decode cX7_whoGets 65 = .ok (.ifCond .gt 6, 3) := dk_157 0 6 (dk_at dksX7_whoGets_2 19 rfl rfl)
theorem dX7_whoGets_68 : decode cX7_whoGets 68 = .ok (.goto 17, 3) := dk_167 0 17 (dk_at dksX7_whoGets_3 0 rfl rfl)
theorem dX7_whoGets_71 : decode cX7_whoGets 71 = .ok (.iload 5, 2) := dk_21 5 (dk_at dksX7_whoGets_3 3 rfl rfl)
theorem dX7_whoGets_73 : decode cX7_whoGets 73 = .ok (.istore_n 1, 1) := dk_60 (dk_at dksX7_whoGets_3 5 rfl rfl)
theorem dX7_whoGets_74 : decode cX7_whoGets 74 = .ok (.aload_n 0, 1) := dk_42 (dk_at dksX7_whoGets_3 6 rfl rfl)
theorem dX7_whoGets_75 : decode cX7_whoGets 75 = .ok (.getfield 439, 3) := dk_180 1 183 (dk_at dksX7_whoGets_3 7 rfl rfl)
theorem dX7_whoGets_78 : decode cX7_whoGets 78 = .ok (.lstore_n 2, 1) := dk_65 (dk_at dksX7_whoGets_3 10 rfl rfl)
theorem dX7_whoGets_79 : decode cX7_whoGets 79 = .ok (.aload_n 0, 1) := dk_42 (dk_at dksX7_whoGets_3 11 rfl rfl)
theorem dX7_whoGets_80 : decode cX7_whoGets 80 = .ok (.getfield 443, 3) := dk_180 1 187 (dk_at dksX7_whoGets_3 12 rfl rfl)
theorem dX7_whoGets_83 : decode cX7_whoGets 83 = .ok (.istore 4, 2) := dk_54 4 (dk_at dksX7_whoGets_3 15 rfl rfl)
theorem dX7_whoGets_85 : decode cX7_whoGets 85 = .ok (.iinc 5 1, 3) := dk_132 5 1 (dk_at dksX7_whoGets_3 17 rfl rfl)
theorem dX7_whoGets_88 : decode cX7_whoGets 88 = .ok (.goto (-78), 3) := dk_167 255 178 (dk_at dksX7_whoGets_3 20 rfl rfl)
theorem dX7_whoGets_91 : decode cX7_whoGets 91 = .ok (.iload_n 1, 1) := dk_27 (dk_at dksX7_whoGets_3 23 rfl rfl)
theorem dX7_whoGets_92 : decode cX7_whoGets 92 = .ok (.ireturn, 1) := dk_172 (dk_at dksX7_whoGets_4 0 rfl rfl)
abbrev cX7_laysFall : ByteArray := prog_32_method_106_code
def yX7_laysFall : MethodName := ⟨RX7, "laysFall", "(II)V"⟩
def dkwX7_laysFall_3 : List UInt8 := [181, 1, 183, 42, 21, 5, 21, 4, 100, 181, 1, 187, 177]
abbrev dktX7_laysFall_3 : List UInt8 := dkwX7_laysFall_3 ++ []
def dkwX7_laysFall_2 : List UInt8 := [29, 96, 4, 96, 46, 54, 5, 42, 42, 27, 21, 4, 182, 1, 154, 42, 27, 21, 5, 182, 1, 154, 100, 133]
abbrev dktX7_laysFall_2 : List UInt8 := dkwX7_laysFall_2 ++ dktX7_laysFall_3
def dkwX7_laysFall_1 : List UInt8 := [167, 255, 236, 42, 180, 0, 91, 16, 25, 27, 104, 29, 96, 46, 54, 4, 42, 180, 0, 91, 16, 25, 27, 104]
abbrev dktX7_laysFall_1 : List UInt8 := dkwX7_laysFall_1 ++ dktX7_laysFall_2
def dkwX7_laysFall_0 : List UInt8 := [3, 62, 42, 180, 0, 91, 16, 25, 27, 104, 29, 96, 4, 96, 46, 28, 163, 0, 9, 132, 3, 1]
abbrev dktX7_laysFall_0 : List UInt8 := dkwX7_laysFall_0 ++ dktX7_laysFall_1
theorem dksX7_laysFall_0 : cX7_laysFall.data.toList.drop 0 = dktX7_laysFall_0 := by decide +kernel
theorem dksX7_laysFall_1 : cX7_laysFall.data.toList.drop 22 = dktX7_laysFall_1 := dk_seg dksX7_laysFall_0 22 rfl rfl
theorem dksX7_laysFall_2 : cX7_laysFall.data.toList.drop 46 = dktX7_laysFall_2 := dk_seg dksX7_laysFall_1 24 rfl rfl
theorem dksX7_laysFall_3 : cX7_laysFall.data.toList.drop 70 = dktX7_laysFall_3 := dk_seg dksX7_laysFall_2 24 rfl rfl
theorem dX7_laysFall_0 : decode cX7_laysFall 0 = .ok (.iconst 0, 1) := dk_3 (dk_at dksX7_laysFall_0 0 rfl rfl)
theorem dX7_laysFall_1 : decode cX7_laysFall 1 = .ok (.istore_n 3, 1) := dk_62 (dk_at dksX7_laysFall_0 1 rfl rfl)
theorem dX7_laysFall_2 : decode cX7_laysFall 2 = .ok (.aload_n 0, 1) := dk_42 (dk_at dksX7_laysFall_0 2 rfl rfl)
theorem dX7_laysFall_3 : decode cX7_laysFall 3 = .ok (.getfield 91, 3) := dk_180 0 91 (dk_at dksX7_laysFall_0 3 rfl rfl)
theorem dX7_laysFall_6 : decode cX7_laysFall 6 = .ok (.bipush 25, 2) := dk_16 25 (dk_at dksX7_laysFall_0 6 rfl rfl)
theorem dX7_laysFall_8 : decode cX7_laysFall 8 = .ok (.iload_n 1, 1) := dk_27 (dk_at dksX7_laysFall_0 8 rfl rfl)
theorem dX7_laysFall_9 : decode cX7_laysFall 9 = .ok (.imul, 1) := dk_104 (dk_at dksX7_laysFall_0 9 rfl rfl)
theorem dX7_laysFall_10 : decode cX7_laysFall 10 = .ok (.iload_n 3, 1) := dk_29 (dk_at dksX7_laysFall_0 10 rfl rfl)
theorem dX7_laysFall_11 : decode cX7_laysFall 11 = .ok (.iadd, 1) := dk_96 (dk_at dksX7_laysFall_0 11 rfl rfl)
theorem dX7_laysFall_12 : decode cX7_laysFall 12 = .ok (.iconst 1, 1) := dk_4 (dk_at dksX7_laysFall_0 12 rfl rfl)
theorem dX7_laysFall_13 : decode cX7_laysFall 13 = .ok (.iadd, 1) := dk_96 (dk_at dksX7_laysFall_0 13 rfl rfl)
theorem dX7_laysFall_14 : decode cX7_laysFall 14 = .ok (.iaload, 1) := dk_46 (dk_at dksX7_laysFall_0 14 rfl rfl)
theorem dX7_laysFall_15 : decode cX7_laysFall 15 = .ok (.iload_n 2, 1) := dk_28 (dk_at dksX7_laysFall_0 15 rfl rfl)
theorem dX7_laysFall_16 : decode cX7_laysFall 16 = .ok (.if_icmp .gt 9, 3) := dk_163 0 9 (dk_at dksX7_laysFall_0 16 rfl rfl)
theorem dX7_laysFall_19 : decode cX7_laysFall 19 = .ok (.iinc 3 1, 3) := dk_132 3 1 (dk_at dksX7_laysFall_0 19 rfl rfl)
theorem dX7_laysFall_22 : decode cX7_laysFall 22 = .ok (.goto (-20), 3) := dk_167 255 236 (dk_at dksX7_laysFall_1 0 rfl rfl)
theorem dX7_laysFall_25 : decode cX7_laysFall 25 = .ok (.aload_n 0, 1) := dk_42 (dk_at dksX7_laysFall_1 3 rfl rfl)
theorem dX7_laysFall_26 : decode cX7_laysFall 26 = .ok (.getfield 91, 3) := dk_180 0 91 (dk_at dksX7_laysFall_1 4 rfl rfl)
theorem dX7_laysFall_29 : decode cX7_laysFall 29 = .ok (.bipush 25, 2) := dk_16 25 (dk_at dksX7_laysFall_1 7 rfl rfl)
theorem dX7_laysFall_31 : decode cX7_laysFall 31 = .ok (.iload_n 1, 1) := dk_27 (dk_at dksX7_laysFall_1 9 rfl rfl)
theorem dX7_laysFall_32 : decode cX7_laysFall 32 = .ok (.imul, 1) := dk_104 (dk_at dksX7_laysFall_1 10 rfl rfl)
theorem dX7_laysFall_33 : decode cX7_laysFall 33 = .ok (.iload_n 3, 1) := dk_29 (dk_at dksX7_laysFall_1 11 rfl rfl)
theorem dX7_laysFall_34 : decode cX7_laysFall 34 = .ok (.iadd, 1) := dk_96 (dk_at dksX7_laysFall_1 12 rfl rfl)
theorem dX7_laysFall_35 : decode cX7_laysFall 35 = .ok (.iaload, 1) := dk_46 (dk_at dksX7_laysFall_1 13 rfl rfl)
theorem dX7_laysFall_36 : decode cX7_laysFall 36 = .ok (.istore 4, 2) := dk_54 4 (dk_at dksX7_laysFall_1 14 rfl rfl)
theorem dX7_laysFall_38 : decode cX7_laysFall 38 = .ok (.aload_n 0, 1) := dk_42 (dk_at dksX7_laysFall_1 16 rfl rfl)
theorem dX7_laysFall_39 : decode cX7_laysFall 39 = .ok (.getfield 91, 3) := dk_180 0 91 (dk_at dksX7_laysFall_1 17 rfl rfl)
theorem dX7_laysFall_42 : decode cX7_laysFall 42 = .ok (.bipush 25, 2) := dk_16 25 (dk_at dksX7_laysFall_1 20 rfl rfl)
theorem dX7_laysFall_44 : decode cX7_laysFall 44 = .ok (.iload_n 1, 1) := dk_27 (dk_at dksX7_laysFall_1 22 rfl rfl)
theorem dX7_laysFall_45 : decode cX7_laysFall 45 = .ok (.imul, 1) := dk_104 (dk_at dksX7_laysFall_1 23 rfl rfl)
theorem dX7_laysFall_46 : decode cX7_laysFall 46 = .ok (.iload_n 3, 1) := dk_29 (dk_at dksX7_laysFall_2 0 rfl rfl)
theorem dX7_laysFall_47 : decode cX7_laysFall 47 = .ok (.iadd, 1) := dk_96 (dk_at dksX7_laysFall_2 1 rfl rfl)
theorem dX7_laysFall_48 : decode cX7_laysFall 48 = .ok (.iconst 1, 1) := dk_4 (dk_at dksX7_laysFall_2 2 rfl rfl)
theorem dX7_laysFall_49 : decode cX7_laysFall 49 = .ok (.iadd, 1) := dk_96 (dk_at dksX7_laysFall_2 3 rfl rfl)
theorem dX7_laysFall_50 : decode cX7_laysFall 50 = .ok (.iaload, 1) := dk_46 (dk_at dksX7_laysFall_2 4 rfl rfl)
theorem dX7_laysFall_51 : decode cX7_laysFall 51 = .ok (.istore 5, 2) := dk_54 5 (dk_at dksX7_laysFall_2 5 rfl rfl)
theorem dX7_laysFall_53 : decode cX7_laysFall 53 = .ok (.aload_n 0, 1) := dk_42 (dk_at dksX7_laysFall_2 7 rfl rfl)
theorem dX7_laysFall_54 : decode cX7_laysFall 54 = .ok (.aload_n 0, 1) := dk_42 (dk_at dksX7_laysFall_2 8 rfl rfl)
theorem dX7_laysFall_55 : decode cX7_laysFall 55 = .ok (.iload_n 1, 1) := dk_27 (dk_at dksX7_laysFall_2 9 rfl rfl)
theorem dX7_laysFall_56 : decode cX7_laysFall 56 = .ok (.iload 4, 2) := dk_21 4 (dk_at dksX7_laysFall_2 10 rfl rfl)
theorem dX7_laysFall_58 : decode cX7_laysFall 58 = .ok (.invokevirtual 410, 3) := dk_182 1 154 (dk_at dksX7_laysFall_2 12 rfl rfl)
theorem dX7_laysFall_61 : decode cX7_laysFall 61 = .ok (.aload_n 0, 1) := dk_42 (dk_at dksX7_laysFall_2 15 rfl rfl)
theorem dX7_laysFall_62 : decode cX7_laysFall 62 = .ok (.iload_n 1, 1) := dk_27 (dk_at dksX7_laysFall_2 16 rfl rfl)
theorem dX7_laysFall_63 : decode cX7_laysFall 63 = .ok (.iload 5, 2) := dk_21 5 (dk_at dksX7_laysFall_2 17 rfl rfl)
theorem dX7_laysFall_65 : decode cX7_laysFall 65 = .ok (.invokevirtual 410, 3) := dk_182 1 154 (dk_at dksX7_laysFall_2 19 rfl rfl)
theorem dX7_laysFall_68 : decode cX7_laysFall 68 = .ok (.isub, 1) := dk_100 (dk_at dksX7_laysFall_2 22 rfl rfl)
theorem dX7_laysFall_69 : decode cX7_laysFall 69 = .ok (.i2l, 1) := dk_133 (dk_at dksX7_laysFall_2 23 rfl rfl)
theorem dX7_laysFall_70 : decode cX7_laysFall 70 = .ok (.putfield 439, 3) := dk_181 1 183 (dk_at dksX7_laysFall_3 0 rfl rfl)
theorem dX7_laysFall_73 : decode cX7_laysFall 73 = .ok (.aload_n 0, 1) := dk_42 (dk_at dksX7_laysFall_3 3 rfl rfl)
theorem dX7_laysFall_74 : decode cX7_laysFall 74 = .ok (.iload 5, 2) := dk_21 5 (dk_at dksX7_laysFall_3 4 rfl rfl)
theorem dX7_laysFall_76 : decode cX7_laysFall 76 = .ok (.iload 4, 2) := dk_21 4 (dk_at dksX7_laysFall_3 6 rfl rfl)
theorem dX7_laysFall_78 : decode cX7_laysFall 78 = .ok (.isub, 1) := dk_100 (dk_at dksX7_laysFall_3 8 rfl rfl)
theorem dX7_laysFall_79 : decode cX7_laysFall 79 = .ok (.putfield 443, 3) := dk_181 1 187 (dk_at dksX7_laysFall_3 9 rfl rfl)
theorem dX7_laysFall_82 : decode cX7_laysFall 82 = .ok (.return_, 1) := dk_177 (dk_at dksX7_laysFall_3 12 rfl rfl)
abbrev cX7_best : ByteArray := prog_32_method_112_code
def yX7_best : MethodName := ⟨RX7, "best", "(II)I"⟩
def dkwX7_best_4 : List UInt8 := [21, 4, 172]
abbrev dktX7_best_4 : List UInt8 := dkwX7_best_4 ++ []
def dkwX7_best_3 : List UInt8 := [182, 1, 196, 159, 0, 9, 132, 4, 1, 167, 255, 234, 29, 21, 4, 100, 62, 132, 5, 1, 167, 255, 214]
abbrev dktX7_best_3 : List UInt8 := dkwX7_best_3 ++ dktX7_best_4
def dkwX7_best_2 : List UInt8 := [21, 5, 28, 163, 0, 42, 3, 54, 4, 42, 21, 5, 29, 21, 4, 182, 1, 200, 42, 21, 5, 29]
abbrev dktX7_best_2 : List UInt8 := dkwX7_best_2 ++ dktX7_best_3
def dkwX7_best_1 : List UInt8 := [182, 1, 203, 28, 2, 160, 0, 10, 42, 3, 27, 182, 1, 196, 172, 27, 62, 3, 54, 4, 3, 54, 5]
abbrev dktX7_best_1 : List UInt8 := dkwX7_best_1 ++ dktX7_best_2
def dkwX7_best_0 : List UInt8 := [27, 3, 16, 48, 184, 0, 18, 153, 0, 12, 28, 2, 6, 184, 0, 18, 154, 0, 5, 2, 172, 42, 27]
abbrev dktX7_best_0 : List UInt8 := dkwX7_best_0 ++ dktX7_best_1
theorem dksX7_best_0 : cX7_best.data.toList.drop 0 = dktX7_best_0 := by decide +kernel
theorem dksX7_best_1 : cX7_best.data.toList.drop 23 = dktX7_best_1 := dk_seg dksX7_best_0 23 rfl rfl
theorem dksX7_best_2 : cX7_best.data.toList.drop 46 = dktX7_best_2 := dk_seg dksX7_best_1 23 rfl rfl
theorem dksX7_best_3 : cX7_best.data.toList.drop 68 = dktX7_best_3 := dk_seg dksX7_best_2 22 rfl rfl
theorem dksX7_best_4 : cX7_best.data.toList.drop 91 = dktX7_best_4 := dk_seg dksX7_best_3 23 rfl rfl
theorem dX7_best_0 : decode cX7_best 0 = .ok (.iload_n 1, 1) := dk_27 (dk_at dksX7_best_0 0 rfl rfl)
theorem dX7_best_1 : decode cX7_best 1 = .ok (.iconst 0, 1) := dk_3 (dk_at dksX7_best_0 1 rfl rfl)
theorem dX7_best_2 : decode cX7_best 2 = .ok (.bipush 48, 2) := dk_16 48 (dk_at dksX7_best_0 2 rfl rfl)
theorem dX7_best_4 : decode cX7_best 4 = .ok (.invokestatic 18, 3) := dk_184 0 18 (dk_at dksX7_best_0 4 rfl rfl)
theorem dX7_best_7 : decode cX7_best 7 = .ok (.ifCond .eq 12, 3) := dk_153 0 12 (dk_at dksX7_best_0 7 rfl rfl)
theorem dX7_best_10 : decode cX7_best 10 = .ok (.iload_n 2, 1) := dk_28 (dk_at dksX7_best_0 10 rfl rfl)
theorem dX7_best_11 : decode cX7_best 11 = .ok (.iconst (-1), 1) := dk_2 (dk_at dksX7_best_0 11 rfl rfl)
theorem dX7_best_12 : decode cX7_best 12 = .ok (.iconst 3, 1) := dk_6 (dk_at dksX7_best_0 12 rfl rfl)
theorem dX7_best_13 : decode cX7_best 13 = .ok (.invokestatic 18, 3) := dk_184 0 18 (dk_at dksX7_best_0 13 rfl rfl)
theorem dX7_best_16 : decode cX7_best 16 = .ok (.ifCond .ne 5, 3) := dk_154 0 5 (dk_at dksX7_best_0 16 rfl rfl)
theorem dX7_best_19 : decode cX7_best 19 = .ok (.iconst (-1), 1) := dk_2 (dk_at dksX7_best_0 19 rfl rfl)
theorem dX7_best_20 : decode cX7_best 20 = .ok (.ireturn, 1) := dk_172 (dk_at dksX7_best_0 20 rfl rfl)
theorem dX7_best_21 : decode cX7_best 21 = .ok (.aload_n 0, 1) := dk_42 (dk_at dksX7_best_0 21 rfl rfl)
theorem dX7_best_22 : decode cX7_best 22 = .ok (.iload_n 1, 1) := dk_27 (dk_at dksX7_best_0 22 rfl rfl)
theorem dX7_best_23 : decode cX7_best 23 = .ok (.invokevirtual 459, 3) := dk_182 1 203 (dk_at dksX7_best_1 0 rfl rfl)
theorem dX7_best_26 : decode cX7_best 26 = .ok (.iload_n 2, 1) := dk_28 (dk_at dksX7_best_1 3 rfl rfl)
theorem dX7_best_27 : decode cX7_best 27 = .ok (.iconst (-1), 1) := dk_2 (dk_at dksX7_best_1 4 rfl rfl)
theorem dX7_best_28 : decode cX7_best 28 = .ok (.if_icmp .ne 10, 3) := dk_160 0 10 (dk_at dksX7_best_1 5 rfl rfl)
theorem dX7_best_31 : decode cX7_best 31 = .ok (.aload_n 0, 1) := dk_42 (dk_at dksX7_best_1 8 rfl rfl)
theorem dX7_best_32 : decode cX7_best 32 = .ok (.iconst 0, 1) := dk_3 (dk_at dksX7_best_1 9 rfl rfl)
theorem dX7_best_33 : decode cX7_best 33 = .ok (.iload_n 1, 1) := dk_27 (dk_at dksX7_best_1 10 rfl rfl)
theorem dX7_best_34 : decode cX7_best 34 = .ok (.invokevirtual 452, 3) := dk_182 1 196 (dk_at dksX7_best_1 11 rfl rfl)
theorem dX7_best_37 : decode cX7_best 37 = .ok (.ireturn, 1) := dk_172 (dk_at dksX7_best_1 14 rfl rfl)
theorem dX7_best_38 : decode cX7_best 38 = .ok (.iload_n 1, 1) := dk_27 (dk_at dksX7_best_1 15 rfl rfl)
theorem dX7_best_39 : decode cX7_best 39 = .ok (.istore_n 3, 1) := dk_62 (dk_at dksX7_best_1 16 rfl rfl)
theorem dX7_best_40 : decode cX7_best 40 = .ok (.iconst 0, 1) := dk_3 (dk_at dksX7_best_1 17 rfl rfl)
theorem dX7_best_41 : decode cX7_best 41 = .ok (.istore 4, 2) := dk_54 4 (dk_at dksX7_best_1 18 rfl rfl)
theorem dX7_best_43 : decode cX7_best 43 = .ok (.iconst 0, 1) := dk_3 (dk_at dksX7_best_1 20 rfl rfl)
theorem dX7_best_44 : decode cX7_best 44 = .ok (.istore 5, 2) := dk_54 5 (dk_at dksX7_best_1 21 rfl rfl)
theorem dX7_best_46 : decode cX7_best 46 = .ok (.iload 5, 2) := dk_21 5 (dk_at dksX7_best_2 0 rfl rfl)
theorem dX7_best_48 : decode cX7_best 48 = .ok (.iload_n 2, 1) := dk_28 (dk_at dksX7_best_2 2 rfl rfl)
theorem dX7_best_49 : decode cX7_best 49 = .ok (.if_icmp .gt 42, 3) := dk_163 0 42 (dk_at dksX7_best_2 3 rfl rfl)
theorem dX7_best_52 : decode cX7_best 52 = .ok (.iconst 0, 1) := dk_3 (dk_at dksX7_best_2 6 rfl rfl)
theorem dX7_best_53 : decode cX7_best 53 = .ok (.istore 4, 2) := dk_54 4 (dk_at dksX7_best_2 7 rfl rfl)
theorem dX7_best_55 : decode cX7_best 55 = .ok (.aload_n 0, 1) := dk_42 (dk_at dksX7_best_2 9 rfl rfl)
theorem dX7_best_56 : decode cX7_best 56 = .ok (.iload 5, 2) := dk_21 5 (dk_at dksX7_best_2 10 rfl rfl)
theorem dX7_best_58 : decode cX7_best 58 = .ok (.iload_n 3, 1) := dk_29 (dk_at dksX7_best_2 12 rfl rfl)
theorem dX7_best_59 : decode cX7_best 59 = .ok (.iload 4, 2) := dk_21 4 (dk_at dksX7_best_2 13 rfl rfl)
theorem dX7_best_61 : decode cX7_best 61 = .ok (.invokevirtual 456, 3) := dk_182 1 200 (dk_at dksX7_best_2 15 rfl rfl)
theorem dX7_best_64 : decode cX7_best 64 = .ok (.aload_n 0, 1) := dk_42 (dk_at dksX7_best_2 18 rfl rfl)
theorem dX7_best_65 : decode cX7_best 65 = .ok (.iload 5, 2) := dk_21 5 (dk_at dksX7_best_2 19 rfl rfl)
theorem dX7_best_67 : decode cX7_best 67 = .ok (.iload_n 3, 1) := dk_29 (dk_at dksX7_best_2 21 rfl rfl)
theorem dX7_best_68 : decode cX7_best 68 = .ok (.invokevirtual 452, 3) := dk_182 1 196 (dk_at dksX7_best_3 0 rfl rfl)
theorem dX7_best_71 : decode cX7_best 71 = .ok (.if_icmp .eq 9, 3) := dk_159 0 9 (dk_at dksX7_best_3 3 rfl rfl)
theorem dX7_best_74 : decode cX7_best 74 = .ok (.iinc 4 1, 3) := dk_132 4 1 (dk_at dksX7_best_3 6 rfl rfl)
theorem dX7_best_77 : decode cX7_best 77 = .ok (.goto (-22), 3) := dk_167 255 234 (dk_at dksX7_best_3 9 rfl rfl)
theorem dX7_best_80 : decode cX7_best 80 = .ok (.iload_n 3, 1) := dk_29 (dk_at dksX7_best_3 12 rfl rfl)
theorem dX7_best_81 : decode cX7_best 81 = .ok (.iload 4, 2) := dk_21 4 (dk_at dksX7_best_3 13 rfl rfl)
theorem dX7_best_83 : decode cX7_best 83 = .ok (.isub, 1) := dk_100 (dk_at dksX7_best_3 15 rfl rfl)
theorem dX7_best_84 : decode cX7_best 84 = .ok (.istore_n 3, 1) := dk_62 (dk_at dksX7_best_3 16 rfl rfl)
theorem dX7_best_85 : decode cX7_best 85 = .ok (.iinc 5 1, 3) := dk_132 5 1 (dk_at dksX7_best_3 17 rfl rfl)
theorem dX7_best_88 : decode cX7_best 88 = .ok (.goto (-42), 3) := dk_167 255 214 (dk_at dksX7_best_3 20 rfl rfl)
theorem dX7_best_91 : decode cX7_best 91 = .ok (.iload 4, 2) := dk_21 4 (dk_at dksX7_best_4 0 rfl rfl)
theorem dX7_best_93 : decode cX7_best 93 = .ok (.ireturn, 1) := dk_172 (dk_at dksX7_best_4 2 rfl rfl)
abbrev cX7_laysFewest : ByteArray := prog_32_method_111_code
def yX7_laysFewest : MethodName := ⟨RX7, "laysFewest", "(I)V"⟩
def dkwX7_laysFewest_5 : List UInt8 := [132, 2, 255, 167, 255, 163, 177]
abbrev dktX7_laysFewest_5 : List UInt8 := dkwX7_laysFewest_5 ++ []
def dkwX7_laysFewest_4 : List UInt8 := [167, 255, 212, 42, 180, 0, 106, 16, 49, 28, 104, 29, 96, 21, 4, 79, 132, 3, 1, 167, 255, 180]
abbrev dktX7_laysFewest_4 : List UInt8 := dkwX7_laysFewest_4 ++ dktX7_laysFewest_5
def dkwX7_laysFewest_3 : List UInt8 := [21, 4, 162, 0, 14, 42, 28, 29, 21, 5, 182, 1, 200, 167, 0, 5, 21, 4, 54, 4, 132, 5, 1]
abbrev dktX7_laysFewest_3 : List UInt8 := dkwX7_laysFewest_3 ++ dktX7_laysFewest_4
def dkwX7_laysFewest_2 : List UInt8 := [54, 5, 21, 5, 16, 24, 163, 0, 43, 21, 5, 29, 163, 0, 37, 42, 28, 29, 21, 5, 182, 1, 200]
abbrev dktX7_laysFewest_2 : List UInt8 := dkwX7_laysFewest_2 ++ dktX7_laysFewest_3
def dkwX7_laysFewest_1 : List UInt8 := [6, 61, 28, 155, 0, 95, 42, 28, 182, 1, 151, 3, 62, 29, 27, 163, 0, 77, 19, 1, 199, 54, 4, 3]
abbrev dktX7_laysFewest_1 : List UInt8 := dkwX7_laysFewest_1 ++ dktX7_laysFewest_2
def dkwX7_laysFewest_0 : List UInt8 := [3, 61, 28, 27, 163, 0, 20, 42, 180, 0, 106, 17, 0, 196, 28, 96, 3, 79, 132, 2, 1, 167, 255, 237]
abbrev dktX7_laysFewest_0 : List UInt8 := dkwX7_laysFewest_0 ++ dktX7_laysFewest_1
theorem dksX7_laysFewest_0 : cX7_laysFewest.data.toList.drop 0 = dktX7_laysFewest_0 := by decide +kernel
theorem dksX7_laysFewest_1 : cX7_laysFewest.data.toList.drop 24 = dktX7_laysFewest_1 := dk_seg dksX7_laysFewest_0 24 rfl rfl
theorem dksX7_laysFewest_2 : cX7_laysFewest.data.toList.drop 48 = dktX7_laysFewest_2 := dk_seg dksX7_laysFewest_1 24 rfl rfl
theorem dksX7_laysFewest_3 : cX7_laysFewest.data.toList.drop 71 = dktX7_laysFewest_3 := dk_seg dksX7_laysFewest_2 23 rfl rfl
theorem dksX7_laysFewest_4 : cX7_laysFewest.data.toList.drop 94 = dktX7_laysFewest_4 := dk_seg dksX7_laysFewest_3 23 rfl rfl
theorem dksX7_laysFewest_5 : cX7_laysFewest.data.toList.drop 116 = dktX7_laysFewest_5 := dk_seg dksX7_laysFewest_4 22 rfl rfl
theorem dX7_laysFewest_0 : decode cX7_laysFewest 0 = .ok (.iconst 0, 1) := dk_3 (dk_at dksX7_laysFewest_0 0 rfl rfl)
theorem dX7_laysFewest_1 : decode cX7_laysFewest 1 = .ok (.istore_n 2, 1) := dk_61 (dk_at dksX7_laysFewest_0 1 rfl rfl)
theorem dX7_laysFewest_2 : decode cX7_laysFewest 2 = .ok (.iload_n 2, 1) := dk_28 (dk_at dksX7_laysFewest_0 2 rfl rfl)
theorem dX7_laysFewest_3 : decode cX7_laysFewest 3 = .ok (.iload_n 1, 1) := dk_27 (dk_at dksX7_laysFewest_0 3 rfl rfl)
theorem dX7_laysFewest_4 : decode cX7_laysFewest 4 = .ok (.if_icmp .gt 20, 3) := dk_163 0 20 (dk_at dksX7_laysFewest_0 4 rfl rfl)
theorem dX7_laysFewest_7 : decode cX7_laysFewest 7 = .ok (.aload_n 0, 1) := dk_42 (dk_at dksX7_laysFewest_0 7 rfl rfl)
theorem dX7_laysFewest_8 : decode cX7_laysFewest 8 = .ok (.getfield 106, 3) := dk_180 0 106 (dk_at dksX7_laysFewest_0 8 rfl rfl)
theorem dX7_laysFewest_11 : decode cX7_laysFewest 11 = .ok (.sipush 196, 3) := dk_17 0 196 (dk_at dksX7_laysFewest_0 11 rfl rfl)
theorem dX7_laysFewest_14 : decode cX7_laysFewest 14 = .ok (.iload_n 2, 1) := dk_28 (dk_at dksX7_laysFewest_0 14 rfl rfl)
theorem dX7_laysFewest_15 : decode cX7_laysFewest 15 = .ok (.iadd, 1) := dk_96 (dk_at dksX7_laysFewest_0 15 rfl rfl)
theorem dX7_laysFewest_16 : decode cX7_laysFewest 16 = .ok (.iconst 0, 1) := dk_3 (dk_at dksX7_laysFewest_0 16 rfl rfl)
theorem dX7_laysFewest_17 : decode cX7_laysFewest 17 = .ok (.iastore, 1) := dk_79 (dk_at dksX7_laysFewest_0 17 rfl rfl)
theorem dX7_laysFewest_18 : decode cX7_laysFewest 18 = .ok (.iinc 2 1, 3) := dk_132 2 1 (dk_at dksX7_laysFewest_0 18 rfl rfl)
theorem dX7_laysFewest_21 : decode cX7_laysFewest 21 = .ok (.goto (-19), 3) := dk_167 255 237 (dk_at dksX7_laysFewest_0 21 rfl rfl)
theorem dX7_laysFewest_24 : decode cX7_laysFewest 24 = .ok (.iconst 3, 1) := dk_6 (dk_at dksX7_laysFewest_1 0 rfl rfl)
theorem dX7_laysFewest_25 : decode cX7_laysFewest 25 = .ok (.istore_n 2, 1) := dk_61 (dk_at dksX7_laysFewest_1 1 rfl rfl)
theorem dX7_laysFewest_26 : decode cX7_laysFewest 26 = .ok (.iload_n 2, 1) := dk_28 (dk_at dksX7_laysFewest_1 2 rfl rfl)
theorem dX7_laysFewest_27 : decode cX7_laysFewest 27 = .ok (.ifCond .lt 95, 3) := dk_155 0 95 (dk_at dksX7_laysFewest_1 3 rfl rfl)
theorem dX7_laysFewest_30 : decode cX7_laysFewest 30 = .ok (.aload_n 0, 1) := dk_42 (dk_at dksX7_laysFewest_1 6 rfl rfl)
theorem dX7_laysFewest_31 : decode cX7_laysFewest 31 = .ok (.iload_n 2, 1) := dk_28 (dk_at dksX7_laysFewest_1 7 rfl rfl)
theorem dX7_laysFewest_32 : decode cX7_laysFewest 32 = .ok (.invokevirtual 407, 3) := dk_182 1 151 (dk_at dksX7_laysFewest_1 8 rfl rfl)
theorem dX7_laysFewest_35 : decode cX7_laysFewest 35 = .ok (.iconst 0, 1) := dk_3 (dk_at dksX7_laysFewest_1 11 rfl rfl)
theorem dX7_laysFewest_36 : decode cX7_laysFewest 36 = .ok (.istore_n 3, 1) := dk_62 (dk_at dksX7_laysFewest_1 12 rfl rfl)
theorem dX7_laysFewest_37 : decode cX7_laysFewest 37 = .ok (.iload_n 3, 1) := dk_29 (dk_at dksX7_laysFewest_1 13 rfl rfl)
theorem dX7_laysFewest_38 : decode cX7_laysFewest 38 = .ok (.iload_n 1, 1) := dk_27 (dk_at dksX7_laysFewest_1 14 rfl rfl)
theorem dX7_laysFewest_39 : decode cX7_laysFewest 39 = .ok (.if_icmp .gt 77, 3) := dk_163 0 77 (dk_at dksX7_laysFewest_1 15 rfl rfl)
theorem dX7_laysFewest_42 : decode cX7_laysFewest 42 = .ok (.ldc_w 455, 3) := dk_19 1 199 (dk_at dksX7_laysFewest_1 18 rfl rfl)
theorem dX7_laysFewest_45 : decode cX7_laysFewest 45 = .ok (.istore 4, 2) := dk_54 4 (dk_at dksX7_laysFewest_1 21 rfl rfl)
theorem dX7_laysFewest_47 : decode cX7_laysFewest 47 = .ok (.iconst 0, 1) := dk_3 (dk_at dksX7_laysFewest_1 23 rfl rfl)
theorem dX7_laysFewest_48 : decode cX7_laysFewest 48 = .ok (.istore 5, 2) := dk_54 5 (dk_at dksX7_laysFewest_2 0 rfl rfl)
theorem dX7_laysFewest_50 : decode cX7_laysFewest 50 = .ok (.iload 5, 2) := dk_21 5 (dk_at dksX7_laysFewest_2 2 rfl rfl)
theorem dX7_laysFewest_52 : decode cX7_laysFewest 52 = .ok (.bipush 24, 2) := dk_16 24 (dk_at dksX7_laysFewest_2 4 rfl rfl)
theorem dX7_laysFewest_54 : decode cX7_laysFewest 54 = .ok (.if_icmp .gt 43, 3) := dk_163 0 43 (dk_at dksX7_laysFewest_2 6 rfl rfl)
theorem dX7_laysFewest_57 : decode cX7_laysFewest 57 = .ok (.iload 5, 2) := dk_21 5 (dk_at dksX7_laysFewest_2 9 rfl rfl)
theorem dX7_laysFewest_59 : decode cX7_laysFewest 59 = .ok (.iload_n 3, 1) := dk_29 (dk_at dksX7_laysFewest_2 11 rfl rfl)
theorem dX7_laysFewest_60 : decode cX7_laysFewest 60 = .ok (.if_icmp .gt 37, 3) := dk_163 0 37 (dk_at dksX7_laysFewest_2 12 rfl rfl)
theorem dX7_laysFewest_63 : decode cX7_laysFewest 63 = .ok (.aload_n 0, 1) := dk_42 (dk_at dksX7_laysFewest_2 15 rfl rfl)
theorem dX7_laysFewest_64 : decode cX7_laysFewest 64 = .ok (.iload_n 2, 1) := dk_28 (dk_at dksX7_laysFewest_2 16 rfl rfl)
theorem dX7_laysFewest_65 : decode cX7_laysFewest 65 = .ok (.iload_n 3, 1) := dk_29 (dk_at dksX7_laysFewest_2 17 rfl rfl)
theorem dX7_laysFewest_66 : decode cX7_laysFewest 66 = .ok (.iload 5, 2) := dk_21 5 (dk_at dksX7_laysFewest_2 18 rfl rfl)
theorem dX7_laysFewest_68 : decode cX7_laysFewest 68 = .ok (.invokevirtual 456, 3) := dk_182 1 200 (dk_at dksX7_laysFewest_2 20 rfl rfl)
theorem dX7_laysFewest_71 : decode cX7_laysFewest 71 = .ok (.iload 4, 2) := dk_21 4 (dk_at dksX7_laysFewest_3 0 rfl rfl)
theorem dX7_laysFewest_73 : decode cX7_laysFewest 73 = .ok (.if_icmp .ge 14, 3) := dk_162 0 14 (dk_at dksX7_laysFewest_3 2 rfl rfl)
theorem dX7_laysFewest_76 : decode cX7_laysFewest 76 = .ok (.aload_n 0, 1) := dk_42 (dk_at dksX7_laysFewest_3 5 rfl rfl)
theorem dX7_laysFewest_77 : decode cX7_laysFewest 77 = .ok (.iload_n 2, 1) := dk_28 (dk_at dksX7_laysFewest_3 6 rfl rfl)
theorem dX7_laysFewest_78 : decode cX7_laysFewest 78 = .ok (.iload_n 3, 1) := dk_29 (dk_at dksX7_laysFewest_3 7 rfl rfl)
theorem dX7_laysFewest_79 : decode cX7_laysFewest 79 = .ok (.iload 5, 2) := dk_21 5 (dk_at dksX7_laysFewest_3 8 rfl rfl)
theorem dX7_laysFewest_81 : decode cX7_laysFewest 81 = .ok (.invokevirtual 456, 3) := dk_182 1 200 (dk_at dksX7_laysFewest_3 10 rfl rfl)
theorem dX7_laysFewest_84 : decode cX7_laysFewest 84 = .ok (.goto 5, 3) := dk_167 0 5 (dk_at dksX7_laysFewest_3 13 rfl rfl)
theorem dX7_laysFewest_87 : decode cX7_laysFewest 87 = .ok (.iload 4, 2) := dk_21 4 (dk_at dksX7_laysFewest_3 16 rfl rfl)
theorem dX7_laysFewest_89 : decode cX7_laysFewest 89 = .ok (.istore 4, 2) := dk_54 4 (dk_at dksX7_laysFewest_3 18 rfl rfl)
theorem dX7_laysFewest_91 : decode cX7_laysFewest 91 = .ok (.iinc 5 1, 3) := dk_132 5 1 (dk_at dksX7_laysFewest_3 20 rfl rfl)
theorem dX7_laysFewest_94 : decode cX7_laysFewest 94 = .ok (.goto (-44), 3) := dk_167 255 212 (dk_at dksX7_laysFewest_4 0 rfl rfl)
theorem dX7_laysFewest_97 : decode cX7_laysFewest 97 = .ok (.aload_n 0, 1) := dk_42 (dk_at dksX7_laysFewest_4 3 rfl rfl)
theorem dX7_laysFewest_98 : decode cX7_laysFewest 98 = .ok (.getfield 106, 3) := dk_180 0 106 (dk_at dksX7_laysFewest_4 4 rfl rfl)
theorem dX7_laysFewest_101 : decode cX7_laysFewest 101 = .ok (.bipush 49, 2) := dk_16 49 (dk_at dksX7_laysFewest_4 7 rfl rfl)
theorem dX7_laysFewest_103 : decode cX7_laysFewest 103 = .ok (.iload_n 2, 1) := dk_28 (dk_at dksX7_laysFewest_4 9 rfl rfl)
theorem dX7_laysFewest_104 : decode cX7_laysFewest 104 = .ok (.imul, 1) := dk_104 (dk_at dksX7_laysFewest_4 10 rfl rfl)
theorem dX7_laysFewest_105 : decode cX7_laysFewest 105 = .ok (.iload_n 3, 1) := dk_29 (dk_at dksX7_laysFewest_4 11 rfl rfl)
theorem dX7_laysFewest_106 : decode cX7_laysFewest 106 = .ok (.iadd, 1) := dk_96 (dk_at dksX7_laysFewest_4 12 rfl rfl)
theorem dX7_laysFewest_107 : decode cX7_laysFewest 107 = .ok (.iload 4, 2) := dk_21 4 (dk_at dksX7_laysFewest_4 13 rfl rfl)
theorem dX7_laysFewest_109 : decode cX7_laysFewest 109 = .ok (.iastore, 1) := dk_79 (dk_at dksX7_laysFewest_4 15 rfl rfl)
theorem dX7_laysFewest_110 : decode cX7_laysFewest 110 = .ok (.iinc 3 1, 3) := dk_132 3 1 (dk_at dksX7_laysFewest_4 16 rfl rfl)
theorem dX7_laysFewest_113 : decode cX7_laysFewest 113 = .ok (.goto (-76), 3) := dk_167 255 180 (dk_at dksX7_laysFewest_4 19 rfl rfl)
theorem dX7_laysFewest_116 : decode cX7_laysFewest 116 = .ok (.iinc 2 (-1), 3) := dk_132 2 255 (dk_at dksX7_laysFewest_5 0 rfl rfl)
theorem dX7_laysFewest_119 : decode cX7_laysFewest 119 = .ok (.goto (-93), 3) := dk_167 255 163 (dk_at dksX7_laysFewest_5 3 rfl rfl)
theorem dX7_laysFewest_122 : decode cX7_laysFewest 122 = .ok (.return_, 1) := dk_177 (dk_at dksX7_laysFewest_5 6 rfl rfl)
abbrev cX7_missesBy : ByteArray := prog_32_method_110_code
def yX7_missesBy : MethodName := ⟨RX7, "missesBy", "(III)I"⟩
def dkwX7_missesBy_0 : List UInt8 := [42, 27, 29, 182, 1, 154, 42, 27, 4, 96, 28, 29, 100, 182, 1, 196, 96, 172]
abbrev dktX7_missesBy_0 : List UInt8 := dkwX7_missesBy_0 ++ []
theorem dksX7_missesBy_0 : cX7_missesBy.data.toList.drop 0 = dktX7_missesBy_0 := by decide +kernel
theorem dX7_missesBy_0 : decode cX7_missesBy 0 = .ok (.aload_n 0, 1) := dk_42 (dk_at dksX7_missesBy_0 0 rfl rfl)
theorem dX7_missesBy_1 : decode cX7_missesBy 1 = .ok (.iload_n 1, 1) := dk_27 (dk_at dksX7_missesBy_0 1 rfl rfl)
theorem dX7_missesBy_2 : decode cX7_missesBy 2 = .ok (.iload_n 3, 1) := dk_29 (dk_at dksX7_missesBy_0 2 rfl rfl)
theorem dX7_missesBy_3 : decode cX7_missesBy 3 = .ok (.invokevirtual 410, 3) := dk_182 1 154 (dk_at dksX7_missesBy_0 3 rfl rfl)
theorem dX7_missesBy_6 : decode cX7_missesBy 6 = .ok (.aload_n 0, 1) := dk_42 (dk_at dksX7_missesBy_0 6 rfl rfl)
theorem dX7_missesBy_7 : decode cX7_missesBy 7 = .ok (.iload_n 1, 1) := dk_27 (dk_at dksX7_missesBy_0 7 rfl rfl)
theorem dX7_missesBy_8 : decode cX7_missesBy 8 = .ok (.iconst 1, 1) := dk_4 (dk_at dksX7_missesBy_0 8 rfl rfl)
theorem dX7_missesBy_9 : decode cX7_missesBy 9 = .ok (.iadd, 1) := dk_96 (dk_at dksX7_missesBy_0 9 rfl rfl)
theorem dX7_missesBy_10 : decode cX7_missesBy 10 = .ok (.iload_n 2, 1) := dk_28 (dk_at dksX7_missesBy_0 10 rfl rfl)
theorem dX7_missesBy_11 : decode cX7_missesBy 11 = .ok (.iload_n 3, 1) := dk_29 (dk_at dksX7_missesBy_0 11 rfl rfl)
theorem dX7_missesBy_12 : decode cX7_missesBy 12 = .ok (.isub, 1) := dk_100 (dk_at dksX7_missesBy_0 12 rfl rfl)
theorem dX7_missesBy_13 : decode cX7_missesBy 13 = .ok (.invokevirtual 452, 3) := dk_182 1 196 (dk_at dksX7_missesBy_0 13 rfl rfl)
theorem dX7_missesBy_16 : decode cX7_missesBy 16 = .ok (.iadd, 1) := dk_96 (dk_at dksX7_missesBy_0 16 rfl rfl)
theorem dX7_missesBy_17 : decode cX7_missesBy 17 = .ok (.ireturn, 1) := dk_172 (dk_at dksX7_missesBy_0 17 rfl rfl)
abbrev cX7_fewestAt : ByteArray := prog_32_method_109_code
def yX7_fewestAt : MethodName := ⟨RX7, "fewestAt", "(II)I"⟩
def dkwX7_fewestAt_0 : List UInt8 := [42, 180, 0, 106, 16, 49, 27, 104, 28, 96, 46, 172]
abbrev dktX7_fewestAt_0 : List UInt8 := dkwX7_fewestAt_0 ++ []
theorem dksX7_fewestAt_0 : cX7_fewestAt.data.toList.drop 0 = dktX7_fewestAt_0 := by decide +kernel
theorem dX7_fewestAt_0 : decode cX7_fewestAt 0 = .ok (.aload_n 0, 1) := dk_42 (dk_at dksX7_fewestAt_0 0 rfl rfl)
theorem dX7_fewestAt_1 : decode cX7_fewestAt 1 = .ok (.getfield 106, 3) := dk_180 0 106 (dk_at dksX7_fewestAt_0 1 rfl rfl)
theorem dX7_fewestAt_4 : decode cX7_fewestAt 4 = .ok (.bipush 49, 2) := dk_16 49 (dk_at dksX7_fewestAt_0 4 rfl rfl)
theorem dX7_fewestAt_6 : decode cX7_fewestAt 6 = .ok (.iload_n 1, 1) := dk_27 (dk_at dksX7_fewestAt_0 6 rfl rfl)
theorem dX7_fewestAt_7 : decode cX7_fewestAt 7 = .ok (.imul, 1) := dk_104 (dk_at dksX7_fewestAt_0 7 rfl rfl)
theorem dX7_fewestAt_8 : decode cX7_fewestAt 8 = .ok (.iload_n 2, 1) := dk_28 (dk_at dksX7_fewestAt_0 8 rfl rfl)
theorem dX7_fewestAt_9 : decode cX7_fewestAt 9 = .ok (.iadd, 1) := dk_96 (dk_at dksX7_fewestAt_0 9 rfl rfl)
theorem dX7_fewestAt_10 : decode cX7_fewestAt 10 = .ok (.iaload, 1) := dk_46 (dk_at dksX7_fewestAt_0 10 rfl rfl)
theorem dX7_fewestAt_11 : decode cX7_fewestAt 11 = .ok (.ireturn, 1) := dk_172 (dk_at dksX7_fewestAt_0 11 rfl rfl)
abbrev cX7_replay : ByteArray := prog_32_method_122_code
def yX7_replay : MethodName := ⟨RX7, "replay", "(II)I"⟩
def dkwX7_replay_1 : List UInt8 := [180, 0, 124, 28, 46, 172]
abbrev dktX7_replay_1 : List UInt8 := dkwX7_replay_1 ++ []
def dkwX7_replay_0 : List UInt8 := [27, 184, 0, 152, 153, 0, 10, 28, 184, 1, 148, 154, 0, 5, 2, 172, 42, 27, 182, 1, 235, 42]
abbrev dktX7_replay_0 : List UInt8 := dkwX7_replay_0 ++ dktX7_replay_1
theorem dksX7_replay_0 : cX7_replay.data.toList.drop 0 = dktX7_replay_0 := by decide +kernel
theorem dksX7_replay_1 : cX7_replay.data.toList.drop 22 = dktX7_replay_1 := dk_seg dksX7_replay_0 22 rfl rfl
theorem dX7_replay_0 : decode cX7_replay 0 = .ok (.iload_n 1, 1) := dk_27 (dk_at dksX7_replay_0 0 rfl rfl)
theorem dX7_replay_1 : decode cX7_replay 1 = .ok (.invokestatic 152, 3) := dk_184 0 152 (dk_at dksX7_replay_0 1 rfl rfl)
theorem dX7_replay_4 : decode cX7_replay 4 = .ok (.ifCond .eq 10, 3) := dk_153 0 10 (dk_at dksX7_replay_0 4 rfl rfl)
theorem dX7_replay_7 : decode cX7_replay 7 = .ok (.iload_n 2, 1) := dk_28 (dk_at dksX7_replay_0 7 rfl rfl)
theorem dX7_replay_8 : decode cX7_replay 8 = .ok (.invokestatic 404, 3) := dk_184 1 148 (dk_at dksX7_replay_0 8 rfl rfl)
theorem dX7_replay_11 : decode cX7_replay 11 = .ok (.ifCond .ne 5, 3) := dk_154 0 5 (dk_at dksX7_replay_0 11 rfl rfl)
theorem dX7_replay_14 : decode cX7_replay 14 = .ok (.iconst (-1), 1) := dk_2 (dk_at dksX7_replay_0 14 rfl rfl)
theorem dX7_replay_15 : decode cX7_replay 15 = .ok (.ireturn, 1) := dk_172 (dk_at dksX7_replay_0 15 rfl rfl)
theorem dX7_replay_16 : decode cX7_replay 16 = .ok (.aload_n 0, 1) := dk_42 (dk_at dksX7_replay_0 16 rfl rfl)
theorem dX7_replay_17 : decode cX7_replay 17 = .ok (.iload_n 1, 1) := dk_27 (dk_at dksX7_replay_0 17 rfl rfl)
theorem dX7_replay_18 : decode cX7_replay 18 = .ok (.invokevirtual 491, 3) := dk_182 1 235 (dk_at dksX7_replay_0 18 rfl rfl)
theorem dX7_replay_21 : decode cX7_replay 21 = .ok (.aload_n 0, 1) := dk_42 (dk_at dksX7_replay_0 21 rfl rfl)
theorem dX7_replay_22 : decode cX7_replay 22 = .ok (.getfield 124, 3) := dk_180 0 124 (dk_at dksX7_replay_1 0 rfl rfl)
theorem dX7_replay_25 : decode cX7_replay 25 = .ok (.iload_n 2, 1) := dk_28 (dk_at dksX7_replay_1 3 rfl rfl)
theorem dX7_replay_26 : decode cX7_replay 26 = .ok (.iaload, 1) := dk_46 (dk_at dksX7_replay_1 4 rfl rfl)
theorem dX7_replay_27 : decode cX7_replay 27 = .ok (.ireturn, 1) := dk_172 (dk_at dksX7_replay_1 5 rfl rfl)
abbrev cX7_readsAllAgain : ByteArray := prog_32_method_121_code
def yX7_readsAllAgain : MethodName := ⟨RX7, "readsAllAgain", "(I)V"⟩
def dkwX7_readsAllAgain_2 : List UInt8 := [132, 2, 1, 167, 255, 212, 177]
abbrev dktX7_readsAllAgain_2 : List UInt8 := dkwX7_readsAllAgain_2 ++ []
def dkwX7_readsAllAgain_1 : List UInt8 := [29, 16, 25, 162, 0, 16, 42, 27, 28, 29, 182, 1, 229, 132, 3, 1, 167, 255, 240, 42, 28, 182, 1, 232]
abbrev dktX7_readsAllAgain_1 : List UInt8 := dkwX7_readsAllAgain_1 ++ dktX7_readsAllAgain_2
def dkwX7_readsAllAgain_0 : List UInt8 := [42, 27, 182, 1, 226, 3, 61, 28, 42, 180, 0, 28, 27, 16, 59, 184, 0, 142, 46, 162, 0, 35, 3, 62]
abbrev dktX7_readsAllAgain_0 : List UInt8 := dkwX7_readsAllAgain_0 ++ dktX7_readsAllAgain_1
theorem dksX7_readsAllAgain_0 : cX7_readsAllAgain.data.toList.drop 0 = dktX7_readsAllAgain_0 := by decide +kernel
theorem dksX7_readsAllAgain_1 : cX7_readsAllAgain.data.toList.drop 24 = dktX7_readsAllAgain_1 := dk_seg dksX7_readsAllAgain_0 24 rfl rfl
theorem dksX7_readsAllAgain_2 : cX7_readsAllAgain.data.toList.drop 48 = dktX7_readsAllAgain_2 := dk_seg dksX7_readsAllAgain_1 24 rfl rfl
theorem dX7_readsAllAgain_0 : decode cX7_readsAllAgain 0 = .ok (.aload_n 0, 1) := dk_42 (dk_at dksX7_readsAllAgain_0 0 rfl rfl)
theorem dX7_readsAllAgain_1 : decode cX7_readsAllAgain 1 = .ok (.iload_n 1, 1) := dk_27 (dk_at dksX7_readsAllAgain_0 1 rfl rfl)
theorem dX7_readsAllAgain_2 : decode cX7_readsAllAgain 2 = .ok (.invokevirtual 482, 3) := dk_182 1 226 (dk_at dksX7_readsAllAgain_0 2 rfl rfl)
theorem dX7_readsAllAgain_5 : decode cX7_readsAllAgain 5 = .ok (.iconst 0, 1) := dk_3 (dk_at dksX7_readsAllAgain_0 5 rfl rfl)
theorem dX7_readsAllAgain_6 : decode cX7_readsAllAgain 6 = .ok (.istore_n 2, 1) := dk_61 (dk_at dksX7_readsAllAgain_0 6 rfl rfl)
theorem dX7_readsAllAgain_7 : decode cX7_readsAllAgain 7 = .ok (.iload_n 2, 1) := dk_28 (dk_at dksX7_readsAllAgain_0 7 rfl rfl)
theorem dX7_readsAllAgain_8 : decode cX7_readsAllAgain 8 = .ok (.aload_n 0, 1) := dk_42 (dk_at dksX7_readsAllAgain_0 8 rfl rfl)
theorem dX7_readsAllAgain_9 : decode cX7_readsAllAgain 9 = .ok (.getfield 28, 3) := dk_180 0 28 (dk_at dksX7_readsAllAgain_0 9 rfl rfl)
theorem dX7_readsAllAgain_12 : decode cX7_readsAllAgain 12 = .ok (.iload_n 1, 1) := dk_27 (dk_at dksX7_readsAllAgain_0 12 rfl rfl)
theorem dX7_readsAllAgain_13 : decode cX7_readsAllAgain 13 = .ok (.bipush 59, 2) := dk_16 59 (dk_at dksX7_readsAllAgain_0 13 rfl rfl)
theorem dX7_readsAllAgain_15 : decode cX7_readsAllAgain 15 = .ok (.invokestatic 142, 3) := dk_184 0 142 (dk_at dksX7_readsAllAgain_0 15 rfl rfl)
theorem dX7_readsAllAgain_18 : decode cX7_readsAllAgain 18 = .ok (.iaload, 1) := dk_46 (dk_at dksX7_readsAllAgain_0 18 rfl rfl)
theorem dX7_readsAllAgain_19 : decode cX7_readsAllAgain 19 = .ok (.if_icmp .ge 35, 3) := dk_162 0 35 (dk_at dksX7_readsAllAgain_0 19 rfl rfl)
theorem dX7_readsAllAgain_22 : decode cX7_readsAllAgain 22 = .ok (.iconst 0, 1) := dk_3 (dk_at dksX7_readsAllAgain_0 22 rfl rfl)
theorem dX7_readsAllAgain_23 : decode cX7_readsAllAgain 23 = .ok (.istore_n 3, 1) := dk_62 (dk_at dksX7_readsAllAgain_0 23 rfl rfl)
theorem dX7_readsAllAgain_24 : decode cX7_readsAllAgain 24 = .ok (.iload_n 3, 1) := dk_29 (dk_at dksX7_readsAllAgain_1 0 rfl rfl)
theorem dX7_readsAllAgain_25 : decode cX7_readsAllAgain 25 = .ok (.bipush 25, 2) := dk_16 25 (dk_at dksX7_readsAllAgain_1 1 rfl rfl)
theorem dX7_readsAllAgain_27 : decode cX7_readsAllAgain 27 = .ok (.if_icmp .ge 16, 3) := dk_162 0 16 (dk_at dksX7_readsAllAgain_1 3 rfl rfl)
theorem dX7_readsAllAgain_30 : decode cX7_readsAllAgain 30 = .ok (.aload_n 0, 1) := dk_42 (dk_at dksX7_readsAllAgain_1 6 rfl rfl)
theorem dX7_readsAllAgain_31 : decode cX7_readsAllAgain 31 = .ok (.iload_n 1, 1) := dk_27 (dk_at dksX7_readsAllAgain_1 7 rfl rfl)
theorem dX7_readsAllAgain_32 : decode cX7_readsAllAgain 32 = .ok (.iload_n 2, 1) := dk_28 (dk_at dksX7_readsAllAgain_1 8 rfl rfl)
theorem dX7_readsAllAgain_33 : decode cX7_readsAllAgain 33 = .ok (.iload_n 3, 1) := dk_29 (dk_at dksX7_readsAllAgain_1 9 rfl rfl)
theorem dX7_readsAllAgain_34 : decode cX7_readsAllAgain 34 = .ok (.invokevirtual 485, 3) := dk_182 1 229 (dk_at dksX7_readsAllAgain_1 10 rfl rfl)
theorem dX7_readsAllAgain_37 : decode cX7_readsAllAgain 37 = .ok (.iinc 3 1, 3) := dk_132 3 1 (dk_at dksX7_readsAllAgain_1 13 rfl rfl)
theorem dX7_readsAllAgain_40 : decode cX7_readsAllAgain 40 = .ok (.goto (-16), 3) := dk_167 255 240 (dk_at dksX7_readsAllAgain_1 16 rfl rfl)
theorem dX7_readsAllAgain_43 : decode cX7_readsAllAgain 43 = .ok (.aload_n 0, 1) := dk_42 (dk_at dksX7_readsAllAgain_1 19 rfl rfl)
theorem dX7_readsAllAgain_44 : decode cX7_readsAllAgain 44 = .ok (.iload_n 2, 1) := dk_28 (dk_at dksX7_readsAllAgain_1 20 rfl rfl)
theorem dX7_readsAllAgain_45 : decode cX7_readsAllAgain 45 = .ok (.invokevirtual 488, 3) := dk_182 1 232 (dk_at dksX7_readsAllAgain_1 21 rfl rfl)
theorem dX7_readsAllAgain_48 : decode cX7_readsAllAgain 48 = .ok (.iinc 2 1, 3) := dk_132 2 1 (dk_at dksX7_readsAllAgain_2 0 rfl rfl)
theorem dX7_readsAllAgain_51 : decode cX7_readsAllAgain 51 = .ok (.goto (-44), 3) := dk_167 255 212 (dk_at dksX7_readsAllAgain_2 3 rfl rfl)
theorem dX7_readsAllAgain_54 : decode cX7_readsAllAgain 54 = .ok (.return_, 1) := dk_177 (dk_at dksX7_readsAllAgain_2 6 rfl rfl)
abbrev cX7_beginsAgain : ByteArray := prog_32_method_114_code
def yX7_beginsAgain : MethodName := ⟨RX7, "beginsAgain", "(I)V"⟩
def dkwX7_beginsAgain_4 : List UInt8 := [180, 0, 124, 28, 3, 79, 132, 2, 1, 167, 255, 233, 177]
abbrev dktX7_beginsAgain_4 : List UInt8 := dkwX7_beginsAgain_4 ++ []
def dkwX7_beginsAgain_3 : List UInt8 := [3, 79, 132, 2, 1, 167, 255, 183, 3, 61, 28, 16, 25, 162, 0, 23, 42, 180, 0, 118, 28, 9, 80, 42]
abbrev dktX7_beginsAgain_3 : List UInt8 := dkwX7_beginsAgain_3 ++ dktX7_beginsAgain_4
def dkwX7_beginsAgain_2 : List UInt8 := [180, 0, 109, 28, 92, 46, 4, 96, 79, 167, 255, 216, 42, 180, 0, 112, 28, 2, 79, 42, 180, 0, 115, 28]
abbrev dktX7_beginsAgain_2 : List UInt8 := dkwX7_beginsAgain_2 ++ dktX7_beginsAgain_3
def dkwX7_beginsAgain_1 : List UInt8 := [162, 0, 36, 42, 27, 42, 180, 0, 109, 28, 46, 182, 1, 206, 42, 27, 28, 182, 1, 206, 159, 0, 16, 42]
abbrev dktX7_beginsAgain_1 : List UInt8 := dkwX7_beginsAgain_1 ++ dktX7_beginsAgain_2
def dkwX7_beginsAgain_0 : List UInt8 := [3, 61, 28, 16, 32, 162, 0, 73, 42, 180, 0, 109, 28, 3, 79, 42, 180, 0, 109, 28, 46, 28]
abbrev dktX7_beginsAgain_0 : List UInt8 := dkwX7_beginsAgain_0 ++ dktX7_beginsAgain_1
theorem dksX7_beginsAgain_0 : cX7_beginsAgain.data.toList.drop 0 = dktX7_beginsAgain_0 := by decide +kernel
theorem dksX7_beginsAgain_1 : cX7_beginsAgain.data.toList.drop 22 = dktX7_beginsAgain_1 := dk_seg dksX7_beginsAgain_0 22 rfl rfl
theorem dksX7_beginsAgain_2 : cX7_beginsAgain.data.toList.drop 46 = dktX7_beginsAgain_2 := dk_seg dksX7_beginsAgain_1 24 rfl rfl
theorem dksX7_beginsAgain_3 : cX7_beginsAgain.data.toList.drop 70 = dktX7_beginsAgain_3 := dk_seg dksX7_beginsAgain_2 24 rfl rfl
theorem dksX7_beginsAgain_4 : cX7_beginsAgain.data.toList.drop 94 = dktX7_beginsAgain_4 := dk_seg dksX7_beginsAgain_3 24 rfl rfl
theorem dX7_beginsAgain_0 : decode cX7_beginsAgain 0 = .ok (.iconst 0, 1) := dk_3 (dk_at dksX7_beginsAgain_0 0 rfl rfl)
theorem dX7_beginsAgain_1 : decode cX7_beginsAgain 1 = .ok (.istore_n 2, 1) := dk_61 (dk_at dksX7_beginsAgain_0 1 rfl rfl)
theorem dX7_beginsAgain_2 : decode cX7_beginsAgain 2 = .ok (.iload_n 2, 1) := dk_28 (dk_at dksX7_beginsAgain_0 2 rfl rfl)
theorem dX7_beginsAgain_3 : decode cX7_beginsAgain 3 = .ok (.bipush 32, 2) := dk_16 32 (dk_at dksX7_beginsAgain_0 3 rfl rfl)
theorem dX7_beginsAgain_5 : decode cX7_beginsAgain 5 = .ok (.if_icmp .ge 73, 3) := dk_162 0 73 (dk_at dksX7_beginsAgain_0 5 rfl rfl)
theorem dX7_beginsAgain_8 : decode cX7_beginsAgain 8 = .ok (.aload_n 0, 1) := dk_42 (dk_at dksX7_beginsAgain_0 8 rfl rfl)
theorem dX7_beginsAgain_9 : decode cX7_beginsAgain 9 = .ok (.getfield 109, 3) := dk_180 0 109 (dk_at dksX7_beginsAgain_0 9 rfl rfl)
theorem dX7_beginsAgain_12 : decode cX7_beginsAgain 12 = .ok (.iload_n 2, 1) := dk_28 (dk_at dksX7_beginsAgain_0 12 rfl rfl)
theorem dX7_beginsAgain_13 : decode cX7_beginsAgain 13 = .ok (.iconst 0, 1) := dk_3 (dk_at dksX7_beginsAgain_0 13 rfl rfl)
theorem dX7_beginsAgain_14 : decode cX7_beginsAgain 14 = .ok (.iastore, 1) := dk_79 (dk_at dksX7_beginsAgain_0 14 rfl rfl)
theorem dX7_beginsAgain_15 : decode cX7_beginsAgain 15 = .ok (.aload_n 0, 1) := dk_42 (dk_at dksX7_beginsAgain_0 15 rfl rfl)
theorem dX7_beginsAgain_16 : decode cX7_beginsAgain 16 = .ok (.getfield 109, 3) := dk_180 0 109 (dk_at dksX7_beginsAgain_0 16 rfl rfl)
theorem dX7_beginsAgain_19 : decode cX7_beginsAgain 19 = .ok (.iload_n 2, 1) := dk_28 (dk_at dksX7_beginsAgain_0 19 rfl rfl)
theorem dX7_beginsAgain_20 : decode cX7_beginsAgain 20 = .ok (.iaload, 1) := dk_46 (dk_at dksX7_beginsAgain_0 20 rfl rfl)
theorem dX7_beginsAgain_21 : decode cX7_beginsAgain 21 = .ok (.iload_n 2, 1) := dk_28 (dk_at dksX7_beginsAgain_0 21 rfl rfl)
theorem dX7_beginsAgain_22 : decode cX7_beginsAgain 22 = .ok (.if_icmp .ge 36, 3) := dk_162 0 36 (dk_at dksX7_beginsAgain_1 0 rfl rfl)
theorem dX7_beginsAgain_25 : decode cX7_beginsAgain 25 = .ok (.aload_n 0, 1) := dk_42 (dk_at dksX7_beginsAgain_1 3 rfl rfl)
theorem dX7_beginsAgain_26 : decode cX7_beginsAgain 26 = .ok (.iload_n 1, 1) := dk_27 (dk_at dksX7_beginsAgain_1 4 rfl rfl)
theorem dX7_beginsAgain_27 : decode cX7_beginsAgain 27 = .ok (.aload_n 0, 1) := dk_42 (dk_at dksX7_beginsAgain_1 5 rfl rfl)
theorem dX7_beginsAgain_28 : decode cX7_beginsAgain 28 = .ok (.getfield 109, 3) := dk_180 0 109 (dk_at dksX7_beginsAgain_1 6 rfl rfl)
theorem dX7_beginsAgain_31 : decode cX7_beginsAgain 31 = .ok (.iload_n 2, 1) := dk_28 (dk_at dksX7_beginsAgain_1 9 rfl rfl)
theorem dX7_beginsAgain_32 : decode cX7_beginsAgain 32 = .ok (.iaload, 1) := dk_46 (dk_at dksX7_beginsAgain_1 10 rfl rfl)
theorem dX7_beginsAgain_33 : decode cX7_beginsAgain 33 = .ok (.invokevirtual 462, 3) := dk_182 1 206 (dk_at dksX7_beginsAgain_1 11 rfl rfl)
theorem dX7_beginsAgain_36 : decode cX7_beginsAgain 36 = .ok (.aload_n 0, 1) := dk_42 (dk_at dksX7_beginsAgain_1 14 rfl rfl)
theorem dX7_beginsAgain_37 : decode cX7_beginsAgain 37 = .ok (.iload_n 1, 1) := dk_27 (dk_at dksX7_beginsAgain_1 15 rfl rfl)
theorem dX7_beginsAgain_38 : decode cX7_beginsAgain 38 = .ok (.iload_n 2, 1) := dk_28 (dk_at dksX7_beginsAgain_1 16 rfl rfl)
theorem dX7_beginsAgain_39 : decode cX7_beginsAgain 39 = .ok (.invokevirtual 462, 3) := dk_182 1 206 (dk_at dksX7_beginsAgain_1 17 rfl rfl)
theorem dX7_beginsAgain_42 : decode cX7_beginsAgain 42 = .ok (.if_icmp .eq 16, 3) := dk_159 0 16 (dk_at dksX7_beginsAgain_1 20 rfl rfl)
theorem dX7_beginsAgain_45 : decode cX7_beginsAgain 45 = .ok (.aload_n 0, 1) := dk_42 (dk_at dksX7_beginsAgain_1 23 rfl rfl)
theorem dX7_beginsAgain_46 : decode cX7_beginsAgain 46 = .ok (.getfield 109, 3) := dk_180 0 109 (dk_at dksX7_beginsAgain_2 0 rfl rfl)
theorem dX7_beginsAgain_49 : decode cX7_beginsAgain 49 = .ok (.iload_n 2, 1) := dk_28 (dk_at dksX7_beginsAgain_2 3 rfl rfl)
theorem dX7_beginsAgain_50 : decode cX7_beginsAgain 50 = .ok (.dup2, 1) := dk_92 (dk_at dksX7_beginsAgain_2 4 rfl rfl)
theorem dX7_beginsAgain_51 : decode cX7_beginsAgain 51 = .ok (.iaload, 1) := dk_46 (dk_at dksX7_beginsAgain_2 5 rfl rfl)
theorem dX7_beginsAgain_52 : decode cX7_beginsAgain 52 = .ok (.iconst 1, 1) := dk_4 (dk_at dksX7_beginsAgain_2 6 rfl rfl)
theorem dX7_beginsAgain_53 : decode cX7_beginsAgain 53 = .ok (.iadd, 1) := dk_96 (dk_at dksX7_beginsAgain_2 7 rfl rfl)
theorem dX7_beginsAgain_54 : decode cX7_beginsAgain 54 = .ok (.iastore, 1) := dk_79 (dk_at dksX7_beginsAgain_2 8 rfl rfl)
theorem dX7_beginsAgain_55 : decode cX7_beginsAgain 55 = .ok (.goto (-40), 3) := dk_167 255 216 (dk_at dksX7_beginsAgain_2 9 rfl rfl)
theorem dX7_beginsAgain_58 : decode cX7_beginsAgain 58 = .ok (.aload_n 0, 1) := dk_42 (dk_at dksX7_beginsAgain_2 12 rfl rfl)
theorem dX7_beginsAgain_59 : decode cX7_beginsAgain 59 = .ok (.getfield 112, 3) := dk_180 0 112 (dk_at dksX7_beginsAgain_2 13 rfl rfl)
theorem dX7_beginsAgain_62 : decode cX7_beginsAgain 62 = .ok (.iload_n 2, 1) := dk_28 (dk_at dksX7_beginsAgain_2 16 rfl rfl)
theorem dX7_beginsAgain_63 : decode cX7_beginsAgain 63 = .ok (.iconst (-1), 1) := dk_2 (dk_at dksX7_beginsAgain_2 17 rfl rfl)
theorem dX7_beginsAgain_64 : decode cX7_beginsAgain 64 = .ok (.iastore, 1) := dk_79 (dk_at dksX7_beginsAgain_2 18 rfl rfl)
theorem dX7_beginsAgain_65 : decode cX7_beginsAgain 65 = .ok (.aload_n 0, 1) := dk_42 (dk_at dksX7_beginsAgain_2 19 rfl rfl)
theorem dX7_beginsAgain_66 : decode cX7_beginsAgain 66 = .ok (.getfield 115, 3) := dk_180 0 115 (dk_at dksX7_beginsAgain_2 20 rfl rfl)
theorem dX7_beginsAgain_69 : decode cX7_beginsAgain 69 = .ok (.iload_n 2, 1) := dk_28 (dk_at dksX7_beginsAgain_2 23 rfl rfl)
theorem dX7_beginsAgain_70 : decode cX7_beginsAgain 70 = .ok (.iconst 0, 1) := dk_3 (dk_at dksX7_beginsAgain_3 0 rfl rfl)
theorem dX7_beginsAgain_71 : decode cX7_beginsAgain 71 = .ok (.iastore, 1) := dk_79 (dk_at dksX7_beginsAgain_3 1 rfl rfl)
theorem dX7_beginsAgain_72 : decode cX7_beginsAgain 72 = .ok (.iinc 2 1, 3) := dk_132 2 1 (dk_at dksX7_beginsAgain_3 2 rfl rfl)
theorem dX7_beginsAgain_75 : decode cX7_beginsAgain 75 = .ok (.goto (-73), 3) := dk_167 255 183 (dk_at dksX7_beginsAgain_3 5 rfl rfl)
theorem dX7_beginsAgain_78 : decode cX7_beginsAgain 78 = .ok (.iconst 0, 1) := dk_3 (dk_at dksX7_beginsAgain_3 8 rfl rfl)
theorem dX7_beginsAgain_79 : decode cX7_beginsAgain 79 = .ok (.istore_n 2, 1) := dk_61 (dk_at dksX7_beginsAgain_3 9 rfl rfl)
theorem dX7_beginsAgain_80 : decode cX7_beginsAgain 80 = .ok (.iload_n 2, 1) := dk_28 (dk_at dksX7_beginsAgain_3 10 rfl rfl)
theorem dX7_beginsAgain_81 : decode cX7_beginsAgain 81 = .ok (.bipush 25, 2) := dk_16 25 (dk_at dksX7_beginsAgain_3 11 rfl rfl)
theorem dX7_beginsAgain_83 : decode cX7_beginsAgain 83 = .ok (.if_icmp .ge 23, 3) := dk_162 0 23 (dk_at dksX7_beginsAgain_3 13 rfl rfl)
theorem dX7_beginsAgain_86 : decode cX7_beginsAgain 86 = .ok (.aload_n 0, 1) := dk_42 (dk_at dksX7_beginsAgain_3 16 rfl rfl)
theorem dX7_beginsAgain_87 : decode cX7_beginsAgain 87 = .ok (.getfield 118, 3) := dk_180 0 118 (dk_at dksX7_beginsAgain_3 17 rfl rfl)
theorem dX7_beginsAgain_90 : decode cX7_beginsAgain 90 = .ok (.iload_n 2, 1) := dk_28 (dk_at dksX7_beginsAgain_3 20 rfl rfl)
theorem dX7_beginsAgain_91 : decode cX7_beginsAgain 91 = .ok (.lconst 0, 1) := dk_9 (dk_at dksX7_beginsAgain_3 21 rfl rfl)
theorem dX7_beginsAgain_92 : decode cX7_beginsAgain 92 = .ok (.lastore, 1) := dk_80 (dk_at dksX7_beginsAgain_3 22 rfl rfl)
theorem dX7_beginsAgain_93 : decode cX7_beginsAgain 93 = .ok (.aload_n 0, 1) := dk_42 (dk_at dksX7_beginsAgain_3 23 rfl rfl)
theorem dX7_beginsAgain_94 : decode cX7_beginsAgain 94 = .ok (.getfield 124, 3) := dk_180 0 124 (dk_at dksX7_beginsAgain_4 0 rfl rfl)
theorem dX7_beginsAgain_97 : decode cX7_beginsAgain 97 = .ok (.iload_n 2, 1) := dk_28 (dk_at dksX7_beginsAgain_4 3 rfl rfl)
theorem dX7_beginsAgain_98 : decode cX7_beginsAgain 98 = .ok (.iconst 0, 1) := dk_3 (dk_at dksX7_beginsAgain_4 4 rfl rfl)
theorem dX7_beginsAgain_99 : decode cX7_beginsAgain 99 = .ok (.iastore, 1) := dk_79 (dk_at dksX7_beginsAgain_4 5 rfl rfl)
theorem dX7_beginsAgain_100 : decode cX7_beginsAgain 100 = .ok (.iinc 2 1, 3) := dk_132 2 1 (dk_at dksX7_beginsAgain_4 6 rfl rfl)
theorem dX7_beginsAgain_103 : decode cX7_beginsAgain 103 = .ok (.goto (-23), 3) := dk_167 255 233 (dk_at dksX7_beginsAgain_4 9 rfl rfl)
theorem dX7_beginsAgain_106 : decode cX7_beginsAgain 106 = .ok (.return_, 1) := dk_177 (dk_at dksX7_beginsAgain_4 12 rfl rfl)
abbrev cX7_recordAt : ByteArray := prog_32_method_113_code
def yX7_recordAt : MethodName := ⟨RX7, "recordAt", "(II)I"⟩
def dkwX7_recordAt_0 : List UInt8 := [42, 180, 0, 28, 27, 16, 60, 28, 96, 184, 0, 142, 46, 172]
abbrev dktX7_recordAt_0 : List UInt8 := dkwX7_recordAt_0 ++ []
theorem dksX7_recordAt_0 : cX7_recordAt.data.toList.drop 0 = dktX7_recordAt_0 := by decide +kernel
theorem dX7_recordAt_0 : decode cX7_recordAt 0 = .ok (.aload_n 0, 1) := dk_42 (dk_at dksX7_recordAt_0 0 rfl rfl)
theorem dX7_recordAt_1 : decode cX7_recordAt 1 = .ok (.getfield 28, 3) := dk_180 0 28 (dk_at dksX7_recordAt_0 1 rfl rfl)
theorem dX7_recordAt_4 : decode cX7_recordAt 4 = .ok (.iload_n 1, 1) := dk_27 (dk_at dksX7_recordAt_0 4 rfl rfl)
theorem dX7_recordAt_5 : decode cX7_recordAt 5 = .ok (.bipush 60, 2) := dk_16 60 (dk_at dksX7_recordAt_0 5 rfl rfl)
theorem dX7_recordAt_7 : decode cX7_recordAt 7 = .ok (.iload_n 2, 1) := dk_28 (dk_at dksX7_recordAt_0 7 rfl rfl)
theorem dX7_recordAt_8 : decode cX7_recordAt 8 = .ok (.iadd, 1) := dk_96 (dk_at dksX7_recordAt_0 8 rfl rfl)
theorem dX7_recordAt_9 : decode cX7_recordAt 9 = .ok (.invokestatic 142, 3) := dk_184 0 142 (dk_at dksX7_recordAt_0 9 rfl rfl)
theorem dX7_recordAt_12 : decode cX7_recordAt 12 = .ok (.iaload, 1) := dk_46 (dk_at dksX7_recordAt_0 12 rfl rfl)
theorem dX7_recordAt_13 : decode cX7_recordAt 13 = .ok (.ireturn, 1) := dk_172 (dk_at dksX7_recordAt_0 13 rfl rfl)
abbrev cX7_readsAgain : ByteArray := prog_32_method_119_code
def yX7_readsAgain : MethodName := ⟨RX7, "readsAgain", "(III)V"⟩
def dkwX7_readsAgain_4 : List UInt8 := [96, 28, 79, 177]
abbrev dktX7_readsAgain_4 : List UInt8 := dkwX7_readsAgain_4 ++ []
def dkwX7_readsAgain_3 : List UInt8 := [10, 42, 180, 0, 109, 28, 46, 121, 129, 80, 42, 180, 0, 121, 16, 32, 29, 104, 42, 180, 0, 109, 28, 46]
abbrev dktX7_readsAgain_3 : List UInt8 := dkwX7_readsAgain_3 ++ dktX7_readsAgain_4
def dkwX7_readsAgain_2 : List UInt8 := [92, 47, 10, 42, 27, 28, 29, 182, 1, 223, 121, 20, 1, 157, 131, 127, 80, 42, 180, 0, 118, 29, 92, 47]
abbrev dktX7_readsAgain_2 : List UInt8 := dkwX7_readsAgain_2 ++ dktX7_readsAgain_3
def dkwX7_readsAgain_1 : List UInt8 := [92, 46, 4, 96, 79, 29, 154, 0, 4, 177, 42, 29, 182, 1, 220, 29, 160, 0, 25, 42, 180, 0, 118, 29]
abbrev dktX7_readsAgain_1 : List UInt8 := dkwX7_readsAgain_1 ++ dktX7_readsAgain_2
def dkwX7_readsAgain_0 : List UInt8 := [42, 180, 0, 118, 29, 47, 42, 180, 0, 109, 28, 46, 184, 1, 212, 153, 0, 4, 177, 42, 180, 0, 124, 29]
abbrev dktX7_readsAgain_0 : List UInt8 := dkwX7_readsAgain_0 ++ dktX7_readsAgain_1
theorem dksX7_readsAgain_0 : cX7_readsAgain.data.toList.drop 0 = dktX7_readsAgain_0 := by decide +kernel
theorem dksX7_readsAgain_1 : cX7_readsAgain.data.toList.drop 24 = dktX7_readsAgain_1 := dk_seg dksX7_readsAgain_0 24 rfl rfl
theorem dksX7_readsAgain_2 : cX7_readsAgain.data.toList.drop 48 = dktX7_readsAgain_2 := dk_seg dksX7_readsAgain_1 24 rfl rfl
theorem dksX7_readsAgain_3 : cX7_readsAgain.data.toList.drop 72 = dktX7_readsAgain_3 := dk_seg dksX7_readsAgain_2 24 rfl rfl
theorem dksX7_readsAgain_4 : cX7_readsAgain.data.toList.drop 96 = dktX7_readsAgain_4 := dk_seg dksX7_readsAgain_3 24 rfl rfl
theorem dX7_readsAgain_0 : decode cX7_readsAgain 0 = .ok (.aload_n 0, 1) := dk_42 (dk_at dksX7_readsAgain_0 0 rfl rfl)
theorem dX7_readsAgain_1 : decode cX7_readsAgain 1 = .ok (.getfield 118, 3) := dk_180 0 118 (dk_at dksX7_readsAgain_0 1 rfl rfl)
theorem dX7_readsAgain_4 : decode cX7_readsAgain 4 = .ok (.iload_n 3, 1) := dk_29 (dk_at dksX7_readsAgain_0 4 rfl rfl)
theorem dX7_readsAgain_5 : decode cX7_readsAgain 5 = .ok (.laload, 1) := dk_47 (dk_at dksX7_readsAgain_0 5 rfl rfl)
theorem dX7_readsAgain_6 : decode cX7_readsAgain 6 = .ok (.aload_n 0, 1) := dk_42 (dk_at dksX7_readsAgain_0 6 rfl rfl)
theorem dX7_readsAgain_7 : decode cX7_readsAgain 7 = .ok (.getfield 109, 3) := dk_180 0 109 (dk_at dksX7_readsAgain_0 7 rfl rfl)
theorem dX7_readsAgain_10 : decode cX7_readsAgain 10 = .ok (.iload_n 2, 1) := dk_28 (dk_at dksX7_readsAgain_0 10 rfl rfl)
theorem dX7_readsAgain_11 : decode cX7_readsAgain 11 = .ok (.iaload, 1) := dk_46 (dk_at dksX7_readsAgain_0 11 rfl rfl)
theorem dX7_readsAgain_12 : decode cX7_readsAgain 12 = .ok (.invokestatic 468, 3) := dk_184 1 212 (dk_at dksX7_readsAgain_0 12 rfl rfl)
theorem dX7_readsAgain_15 : decode cX7_readsAgain 15 = .ok (.ifCond .eq 4, 3) := dk_153 0 4 (dk_at dksX7_readsAgain_0 15 rfl rfl)
theorem dX7_readsAgain_18 : decode cX7_readsAgain 18 = .ok (.return_, 1) := dk_177 (dk_at dksX7_readsAgain_0 18 rfl rfl)
theorem dX7_readsAgain_19 : decode cX7_readsAgain 19 = .ok (.aload_n 0, 1) := dk_42 (dk_at dksX7_readsAgain_0 19 rfl rfl)
theorem dX7_readsAgain_20 : decode cX7_readsAgain 20 = .ok (.getfield 124, 3) := dk_180 0 124 (dk_at dksX7_readsAgain_0 20 rfl rfl)
theorem dX7_readsAgain_23 : decode cX7_readsAgain 23 = .ok (.iload_n 3, 1) := dk_29 (dk_at dksX7_readsAgain_0 23 rfl rfl)
theorem dX7_readsAgain_24 : decode cX7_readsAgain 24 = .ok (.dup2, 1) := dk_92 (dk_at dksX7_readsAgain_1 0 rfl rfl)
theorem dX7_readsAgain_25 : decode cX7_readsAgain 25 = .ok (.iaload, 1) := dk_46 (dk_at dksX7_readsAgain_1 1 rfl rfl)
theorem dX7_readsAgain_26 : decode cX7_readsAgain 26 = .ok (.iconst 1, 1) := dk_4 (dk_at dksX7_readsAgain_1 2 rfl rfl)
theorem dX7_readsAgain_27 : decode cX7_readsAgain 27 = .ok (.iadd, 1) := dk_96 (dk_at dksX7_readsAgain_1 3 rfl rfl)
theorem dX7_readsAgain_28 : decode cX7_readsAgain 28 = .ok (.iastore, 1) := dk_79 (dk_at dksX7_readsAgain_1 4 rfl rfl)
theorem dX7_readsAgain_29 : decode cX7_readsAgain 29 = .ok (.iload_n 3, 1) := dk_29 (dk_at dksX7_readsAgain_1 5 rfl rfl)
theorem dX7_readsAgain_30 : decode cX7_readsAgain 30 = .ok (.ifCond .ne 4, 3) := dk_154 0 4 (dk_at dksX7_readsAgain_1 6 rfl rfl)
theorem dX7_readsAgain_33 : decode cX7_readsAgain 33 = .ok (.return_, 1) := dk_177 (dk_at dksX7_readsAgain_1 9 rfl rfl)
theorem dX7_readsAgain_34 : decode cX7_readsAgain 34 = .ok (.aload_n 0, 1) := dk_42 (dk_at dksX7_readsAgain_1 10 rfl rfl)
theorem dX7_readsAgain_35 : decode cX7_readsAgain 35 = .ok (.iload_n 3, 1) := dk_29 (dk_at dksX7_readsAgain_1 11 rfl rfl)
theorem dX7_readsAgain_36 : decode cX7_readsAgain 36 = .ok (.invokevirtual 476, 3) := dk_182 1 220 (dk_at dksX7_readsAgain_1 12 rfl rfl)
theorem dX7_readsAgain_39 : decode cX7_readsAgain 39 = .ok (.iload_n 3, 1) := dk_29 (dk_at dksX7_readsAgain_1 15 rfl rfl)
theorem dX7_readsAgain_40 : decode cX7_readsAgain 40 = .ok (.if_icmp .ne 25, 3) := dk_160 0 25 (dk_at dksX7_readsAgain_1 16 rfl rfl)
theorem dX7_readsAgain_43 : decode cX7_readsAgain 43 = .ok (.aload_n 0, 1) := dk_42 (dk_at dksX7_readsAgain_1 19 rfl rfl)
theorem dX7_readsAgain_44 : decode cX7_readsAgain 44 = .ok (.getfield 118, 3) := dk_180 0 118 (dk_at dksX7_readsAgain_1 20 rfl rfl)
theorem dX7_readsAgain_47 : decode cX7_readsAgain 47 = .ok (.iload_n 3, 1) := dk_29 (dk_at dksX7_readsAgain_1 23 rfl rfl)
theorem dX7_readsAgain_48 : decode cX7_readsAgain 48 = .ok (.dup2, 1) := dk_92 (dk_at dksX7_readsAgain_2 0 rfl rfl)
theorem dX7_readsAgain_49 : decode cX7_readsAgain 49 = .ok (.laload, 1) := dk_47 (dk_at dksX7_readsAgain_2 1 rfl rfl)
theorem dX7_readsAgain_50 : decode cX7_readsAgain 50 = .ok (.lconst 1, 1) := dk_10 (dk_at dksX7_readsAgain_2 2 rfl rfl)
theorem dX7_readsAgain_51 : decode cX7_readsAgain 51 = .ok (.aload_n 0, 1) := dk_42 (dk_at dksX7_readsAgain_2 3 rfl rfl)
theorem dX7_readsAgain_52 : decode cX7_readsAgain 52 = .ok (.iload_n 1, 1) := dk_27 (dk_at dksX7_readsAgain_2 4 rfl rfl)
theorem dX7_readsAgain_53 : decode cX7_readsAgain 53 = .ok (.iload_n 2, 1) := dk_28 (dk_at dksX7_readsAgain_2 5 rfl rfl)
theorem dX7_readsAgain_54 : decode cX7_readsAgain 54 = .ok (.iload_n 3, 1) := dk_29 (dk_at dksX7_readsAgain_2 6 rfl rfl)
theorem dX7_readsAgain_55 : decode cX7_readsAgain 55 = .ok (.invokevirtual 479, 3) := dk_182 1 223 (dk_at dksX7_readsAgain_2 7 rfl rfl)
theorem dX7_readsAgain_58 : decode cX7_readsAgain 58 = .ok (.lshl, 1) := dk_121 (dk_at dksX7_readsAgain_2 10 rfl rfl)
theorem dX7_readsAgain_59 : decode cX7_readsAgain 59 = .ok (.ldc2_w 413, 3) := dk_20 1 157 (dk_at dksX7_readsAgain_2 11 rfl rfl)
theorem dX7_readsAgain_62 : decode cX7_readsAgain 62 = .ok (.lxor, 1) := dk_131 (dk_at dksX7_readsAgain_2 14 rfl rfl)
theorem dX7_readsAgain_63 : decode cX7_readsAgain 63 = .ok (.land, 1) := dk_127 (dk_at dksX7_readsAgain_2 15 rfl rfl)
theorem dX7_readsAgain_64 : decode cX7_readsAgain 64 = .ok (.lastore, 1) := dk_80 (dk_at dksX7_readsAgain_2 16 rfl rfl)
theorem dX7_readsAgain_65 : decode cX7_readsAgain 65 = .ok (.aload_n 0, 1) := dk_42 (dk_at dksX7_readsAgain_2 17 rfl rfl)
theorem dX7_readsAgain_66 : decode cX7_readsAgain 66 = .ok (.getfield 118, 3) := dk_180 0 118 (dk_at dksX7_readsAgain_2 18 rfl rfl)
theorem dX7_readsAgain_69 : decode cX7_readsAgain 69 = .ok (.iload_n 3, 1) := dk_29 (dk_at dksX7_readsAgain_2 21 rfl rfl)
theorem dX7_readsAgain_70 : decode cX7_readsAgain 70 = .ok (.dup2, 1) := dk_92 (dk_at dksX7_readsAgain_2 22 rfl rfl)
theorem dX7_readsAgain_71 : decode cX7_readsAgain 71 = .ok (.laload, 1) := dk_47 (dk_at dksX7_readsAgain_2 23 rfl rfl)
theorem dX7_readsAgain_72 : decode cX7_readsAgain 72 = .ok (.lconst 1, 1) := dk_10 (dk_at dksX7_readsAgain_3 0 rfl rfl)
theorem dX7_readsAgain_73 : decode cX7_readsAgain 73 = .ok (.aload_n 0, 1) := dk_42 (dk_at dksX7_readsAgain_3 1 rfl rfl)
theorem dX7_readsAgain_74 : decode cX7_readsAgain 74 = .ok (.getfield 109, 3) := dk_180 0 109 (dk_at dksX7_readsAgain_3 2 rfl rfl)
theorem dX7_readsAgain_77 : decode cX7_readsAgain 77 = .ok (.iload_n 2, 1) := dk_28 (dk_at dksX7_readsAgain_3 5 rfl rfl)
theorem dX7_readsAgain_78 : decode cX7_readsAgain 78 = .ok (.iaload, 1) := dk_46 (dk_at dksX7_readsAgain_3 6 rfl rfl)
theorem dX7_readsAgain_79 : decode cX7_readsAgain 79 = .ok (.lshl, 1) := dk_121 (dk_at dksX7_readsAgain_3 7 rfl rfl)
theorem dX7_readsAgain_80 : decode cX7_readsAgain 80 = .ok (.lor, 1) := dk_129 (dk_at dksX7_readsAgain_3 8 rfl rfl)
theorem dX7_readsAgain_81 : decode cX7_readsAgain 81 = .ok (.lastore, 1) := dk_80 (dk_at dksX7_readsAgain_3 9 rfl rfl)
theorem dX7_readsAgain_82 : decode cX7_readsAgain 82 = .ok (.aload_n 0, 1) := dk_42 (dk_at dksX7_readsAgain_3 10 rfl rfl)
theorem dX7_readsAgain_83 : decode cX7_readsAgain 83 = .ok (.getfield 121, 3) := dk_180 0 121 (dk_at dksX7_readsAgain_3 11 rfl rfl)
theorem dX7_readsAgain_86 : decode cX7_readsAgain 86 = .ok (.bipush 32, 2) := dk_16 32 (dk_at dksX7_readsAgain_3 14 rfl rfl)
theorem dX7_readsAgain_88 : decode cX7_readsAgain 88 = .ok (.iload_n 3, 1) := dk_29 (dk_at dksX7_readsAgain_3 16 rfl rfl)
theorem dX7_readsAgain_89 : decode cX7_readsAgain 89 = .ok (.imul, 1) := dk_104 (dk_at dksX7_readsAgain_3 17 rfl rfl)
theorem dX7_readsAgain_90 : decode cX7_readsAgain 90 = .ok (.aload_n 0, 1) := dk_42 (dk_at dksX7_readsAgain_3 18 rfl rfl)
theorem dX7_readsAgain_91 : decode cX7_readsAgain 91 = .ok (.getfield 109, 3) := dk_180 0 109 (dk_at dksX7_readsAgain_3 19 rfl rfl)
theorem dX7_readsAgain_94 : decode cX7_readsAgain 94 = .ok (.iload_n 2, 1) := dk_28 (dk_at dksX7_readsAgain_3 22 rfl rfl)
theorem dX7_readsAgain_95 : decode cX7_readsAgain 95 = .ok (.iaload, 1) := dk_46 (dk_at dksX7_readsAgain_3 23 rfl rfl)
theorem dX7_readsAgain_96 : decode cX7_readsAgain 96 = .ok (.iadd, 1) := dk_96 (dk_at dksX7_readsAgain_4 0 rfl rfl)
theorem dX7_readsAgain_97 : decode cX7_readsAgain 97 = .ok (.iload_n 2, 1) := dk_28 (dk_at dksX7_readsAgain_4 1 rfl rfl)
theorem dX7_readsAgain_98 : decode cX7_readsAgain 98 = .ok (.iastore, 1) := dk_79 (dk_at dksX7_readsAgain_4 2 rfl rfl)
theorem dX7_readsAgain_99 : decode cX7_readsAgain 99 = .ok (.return_, 1) := dk_177 (dk_at dksX7_readsAgain_4 3 rfl rfl)
abbrev cX7_isIn : ByteArray := prog_32_method_6_code
def yX7_isIn : MethodName := ⟨RX7, "isIn", "(JI)Z"⟩
def dkwX7_isIn_0 : List UInt8 := [30, 28, 123, 10, 127, 10, 148, 154, 0, 7, 4, 167, 0, 4, 3, 172]
abbrev dktX7_isIn_0 : List UInt8 := dkwX7_isIn_0 ++ []
theorem dksX7_isIn_0 : cX7_isIn.data.toList.drop 0 = dktX7_isIn_0 := by decide +kernel
theorem dX7_isIn_0 : decode cX7_isIn 0 = .ok (.lload_n 0, 1) := dk_30 (dk_at dksX7_isIn_0 0 rfl rfl)
theorem dX7_isIn_1 : decode cX7_isIn 1 = .ok (.iload_n 2, 1) := dk_28 (dk_at dksX7_isIn_0 1 rfl rfl)
theorem dX7_isIn_2 : decode cX7_isIn 2 = .ok (.lshr, 1) := dk_123 (dk_at dksX7_isIn_0 2 rfl rfl)
theorem dX7_isIn_3 : decode cX7_isIn 3 = .ok (.lconst 1, 1) := dk_10 (dk_at dksX7_isIn_0 3 rfl rfl)
theorem dX7_isIn_4 : decode cX7_isIn 4 = .ok (.land, 1) := dk_127 (dk_at dksX7_isIn_0 4 rfl rfl)
theorem dX7_isIn_5 : decode cX7_isIn 5 = .ok (.lconst 1, 1) := dk_10 (dk_at dksX7_isIn_0 5 rfl rfl)
theorem dX7_isIn_6 : decode cX7_isIn 6 = .ok (.lcmp, 1) := dk_148 (dk_at dksX7_isIn_0 6 rfl rfl)
theorem dX7_isIn_7 : decode cX7_isIn 7 = .ok (.ifCond .ne 7, 3) := dk_154 0 7 (dk_at dksX7_isIn_0 7 rfl rfl)
theorem dX7_isIn_10 : decode cX7_isIn 10 = .ok (.iconst 1, 1) := dk_4 (dk_at dksX7_isIn_0 10 rfl rfl)
theorem dX7_isIn_11 : decode cX7_isIn 11 = .ok (.goto 4, 3) := dk_167 0 4 (dk_at dksX7_isIn_0 11 rfl rfl)
theorem dX7_isIn_14 : decode cX7_isIn 14 = .ok (.iconst 0, 1) := dk_3 (dk_at dksX7_isIn_0 14 rfl rfl)
theorem dX7_isIn_15 : decode cX7_isIn 15 = .ok (.ireturn, 1) := dk_172 (dk_at dksX7_isIn_0 15 rfl rfl)
abbrev cX7_heldMany : ByteArray := prog_32_method_118_code
def yX7_heldMany : MethodName := ⟨RX7, "heldMany", "(I)I"⟩
def dkwX7_heldMany_1 : List UInt8 := [4, 167, 0, 4, 3, 96, 61, 132, 3, 1, 167, 255, 226, 28, 172]
abbrev dktX7_heldMany_1 : List UInt8 := dkwX7_heldMany_1 ++ []
def dkwX7_heldMany_0 : List UInt8 := [3, 61, 3, 62, 29, 16, 32, 162, 0, 30, 28, 42, 180, 0, 118, 27, 47, 29, 184, 1, 212, 153, 0, 7]
abbrev dktX7_heldMany_0 : List UInt8 := dkwX7_heldMany_0 ++ dktX7_heldMany_1
theorem dksX7_heldMany_0 : cX7_heldMany.data.toList.drop 0 = dktX7_heldMany_0 := by decide +kernel
theorem dksX7_heldMany_1 : cX7_heldMany.data.toList.drop 24 = dktX7_heldMany_1 := dk_seg dksX7_heldMany_0 24 rfl rfl
theorem dX7_heldMany_0 : decode cX7_heldMany 0 = .ok (.iconst 0, 1) := dk_3 (dk_at dksX7_heldMany_0 0 rfl rfl)
theorem dX7_heldMany_1 : decode cX7_heldMany 1 = .ok (.istore_n 2, 1) := dk_61 (dk_at dksX7_heldMany_0 1 rfl rfl)
theorem dX7_heldMany_2 : decode cX7_heldMany 2 = .ok (.iconst 0, 1) := dk_3 (dk_at dksX7_heldMany_0 2 rfl rfl)
theorem dX7_heldMany_3 : decode cX7_heldMany 3 = .ok (.istore_n 3, 1) := dk_62 (dk_at dksX7_heldMany_0 3 rfl rfl)
theorem dX7_heldMany_4 : decode cX7_heldMany 4 = .ok (.iload_n 3, 1) := dk_29 (dk_at dksX7_heldMany_0 4 rfl rfl)
theorem dX7_heldMany_5 : decode cX7_heldMany 5 = .ok (.bipush 32, 2) := dk_16 32 (dk_at dksX7_heldMany_0 5 rfl rfl)
theorem dX7_heldMany_7 : decode cX7_heldMany 7 = .ok (.if_icmp .ge 30, 3) := dk_162 0 30 (dk_at dksX7_heldMany_0 7 rfl rfl)
theorem dX7_heldMany_10 : decode cX7_heldMany 10 = .ok (.iload_n 2, 1) := dk_28 (dk_at dksX7_heldMany_0 10 rfl rfl)
theorem dX7_heldMany_11 : decode cX7_heldMany 11 = .ok (.aload_n 0, 1) := dk_42 (dk_at dksX7_heldMany_0 11 rfl rfl)
theorem dX7_heldMany_12 : decode cX7_heldMany 12 = .ok (.getfield 118, 3) := dk_180 0 118 (dk_at dksX7_heldMany_0 12 rfl rfl)
theorem dX7_heldMany_15 : decode cX7_heldMany 15 = .ok (.iload_n 1, 1) := dk_27 (dk_at dksX7_heldMany_0 15 rfl rfl)
theorem dX7_heldMany_16 : decode cX7_heldMany 16 = .ok (.laload, 1) := dk_47 (dk_at dksX7_heldMany_0 16 rfl rfl)
theorem dX7_heldMany_17 : decode cX7_heldMany 17 = .ok (.iload_n 3, 1) := dk_29 (dk_at dksX7_heldMany_0 17 rfl rfl)
theorem dX7_heldMany_18 : decode cX7_heldMany 18 = .ok (.invokestatic 468, 3) := dk_184 1 212 (dk_at dksX7_heldMany_0 18 rfl rfl)
theorem dX7_heldMany_21 : decode cX7_heldMany 21 = .ok (.ifCond .eq 7, 3) := dk_153 0 7 (dk_at dksX7_heldMany_0 21 rfl rfl)
theorem dX7_heldMany_24 : decode cX7_heldMany 24 = .ok (.iconst 1, 1) := dk_4 (dk_at dksX7_heldMany_1 0 rfl rfl)
theorem dX7_heldMany_25 : decode cX7_heldMany 25 = .ok (.goto 4, 3) := dk_167 0 4 (dk_at dksX7_heldMany_1 1 rfl rfl)
theorem dX7_heldMany_28 : decode cX7_heldMany 28 = .ok (.iconst 0, 1) := dk_3 (dk_at dksX7_heldMany_1 4 rfl rfl)
theorem dX7_heldMany_29 : decode cX7_heldMany 29 = .ok (.iadd, 1) := dk_96 (dk_at dksX7_heldMany_1 5 rfl rfl)
theorem dX7_heldMany_30 : decode cX7_heldMany 30 = .ok (.istore_n 2, 1) := dk_61 (dk_at dksX7_heldMany_1 6 rfl rfl)
theorem dX7_heldMany_31 : decode cX7_heldMany 31 = .ok (.iinc 3 1, 3) := dk_132 3 1 (dk_at dksX7_heldMany_1 7 rfl rfl)
theorem dX7_heldMany_34 : decode cX7_heldMany 34 = .ok (.goto (-30), 3) := dk_167 255 226 (dk_at dksX7_heldMany_1 10 rfl rfl)
theorem dX7_heldMany_37 : decode cX7_heldMany 37 = .ok (.iload_n 2, 1) := dk_28 (dk_at dksX7_heldMany_1 13 rfl rfl)
theorem dX7_heldMany_38 : decode cX7_heldMany 38 = .ok (.ireturn, 1) := dk_172 (dk_at dksX7_heldMany_1 14 rfl rfl)
abbrev cX7_whoLeaves : ByteArray := prog_32_method_117_code
def yX7_whoLeaves : MethodName := ⟨RX7, "whoLeaves", "(III)I"⟩
def dkwX7_whoLeaves_2 : List UInt8 := [21, 5, 54, 4, 132, 5, 1, 167, 255, 208, 21, 4, 172]
abbrev dktX7_whoLeaves_2 : List UInt8 := dkwX7_whoLeaves_2 ++ []
def dkwX7_whoLeaves_1 : List UInt8 := [153, 0, 27, 21, 4, 2, 159, 0, 17, 42, 27, 21, 5, 21, 4, 28, 29, 182, 1, 216, 153, 0, 7]
abbrev dktX7_whoLeaves_1 : List UInt8 := dkwX7_whoLeaves_1 ++ dktX7_whoLeaves_2
def dkwX7_whoLeaves_0 : List UInt8 := [2, 54, 4, 3, 54, 5, 21, 5, 16, 32, 162, 0, 47, 42, 180, 0, 118, 29, 47, 21, 5, 184, 1, 212]
abbrev dktX7_whoLeaves_0 : List UInt8 := dkwX7_whoLeaves_0 ++ dktX7_whoLeaves_1
theorem dksX7_whoLeaves_0 : cX7_whoLeaves.data.toList.drop 0 = dktX7_whoLeaves_0 := by decide +kernel
theorem dksX7_whoLeaves_1 : cX7_whoLeaves.data.toList.drop 24 = dktX7_whoLeaves_1 := dk_seg dksX7_whoLeaves_0 24 rfl rfl
theorem dksX7_whoLeaves_2 : cX7_whoLeaves.data.toList.drop 47 = dktX7_whoLeaves_2 := dk_seg dksX7_whoLeaves_1 23 rfl rfl
theorem dX7_whoLeaves_0 : decode cX7_whoLeaves 0 = .ok (.iconst (-1), 1) := dk_2 (dk_at dksX7_whoLeaves_0 0 rfl rfl)
theorem dX7_whoLeaves_1 : decode cX7_whoLeaves 1 = .ok (.istore 4, 2) := dk_54 4 (dk_at dksX7_whoLeaves_0 1 rfl rfl)
theorem dX7_whoLeaves_3 : decode cX7_whoLeaves 3 = .ok (.iconst 0, 1) := dk_3 (dk_at dksX7_whoLeaves_0 3 rfl rfl)
theorem dX7_whoLeaves_4 : decode cX7_whoLeaves 4 = .ok (.istore 5, 2) := dk_54 5 (dk_at dksX7_whoLeaves_0 4 rfl rfl)
theorem dX7_whoLeaves_6 : decode cX7_whoLeaves 6 = .ok (.iload 5, 2) := dk_21 5 (dk_at dksX7_whoLeaves_0 6 rfl rfl)
theorem dX7_whoLeaves_8 : decode cX7_whoLeaves 8 = .ok (.bipush 32, 2) := dk_16 32 (dk_at dksX7_whoLeaves_0 8 rfl rfl)
theorem dX7_whoLeaves_10 : decode cX7_whoLeaves 10 = .ok (.if_icmp .ge 47, 3) := dk_162 0 47 (dk_at dksX7_whoLeaves_0 10 rfl rfl)
theorem dX7_whoLeaves_13 : decode cX7_whoLeaves 13 = .ok (.aload_n 0, 1) := dk_42 (dk_at dksX7_whoLeaves_0 13 rfl rfl)
theorem dX7_whoLeaves_14 : decode cX7_whoLeaves 14 = .ok (.getfield 118, 3) := dk_180 0 118 (dk_at dksX7_whoLeaves_0 14 rfl rfl)
theorem dX7_whoLeaves_17 : decode cX7_whoLeaves 17 = .ok (.iload_n 3, 1) := dk_29 (dk_at dksX7_whoLeaves_0 17 rfl rfl)
theorem dX7_whoLeaves_18 : decode cX7_whoLeaves 18 = .ok (.laload, 1) := dk_47 (dk_at dksX7_whoLeaves_0 18 rfl rfl)
theorem dX7_whoLeaves_19 : decode cX7_whoLeaves 19 = .ok (.iload 5, 2) := dk_21 5 (dk_at dksX7_whoLeaves_0 19 rfl rfl)
theorem dX7_whoLeaves_21 : decode cX7_whoLeaves 21 = .ok (.invokestatic 468, 3) := dk_184 1 212 (dk_at dksX7_whoLeaves_0 21 rfl rfl)
theorem dX7_whoLeaves_24 : decode cX7_whoLeaves 24 = .ok (.ifCond .eq 27, 3) := dk_153 0 27 (dk_at dksX7_whoLeaves_1 0 rfl rfl)
theorem dX7_whoLeaves_27 : decode cX7_whoLeaves 27 = .ok (.iload 4, 2) := dk_21 4 (dk_at dksX7_whoLeaves_1 3 rfl rfl)
theorem dX7_whoLeaves_29 : decode cX7_whoLeaves 29 = .ok (.iconst (-1), 1) := dk_2 (dk_at dksX7_whoLeaves_1 5 rfl rfl)
theorem dX7_whoLeaves_30 : decode cX7_whoLeaves 30 = .ok (.if_icmp .eq 17, 3) := dk_159 0 17 (dk_at dksX7_whoLeaves_1 6 rfl rfl)
theorem dX7_whoLeaves_33 : decode cX7_whoLeaves 33 = .ok (.aload_n 0, 1) := dk_42 (dk_at dksX7_whoLeaves_1 9 rfl rfl)
theorem dX7_whoLeaves_34 : decode cX7_whoLeaves 34 = .ok (.iload_n 1, 1) := dk_27 (dk_at dksX7_whoLeaves_1 10 rfl rfl)
theorem dX7_whoLeaves_35 : decode cX7_whoLeaves 35 = .ok (.iload 5, 2) := dk_21 5 (dk_at dksX7_whoLeaves_1 11 rfl rfl)
theorem dX7_whoLeaves_37 : decode cX7_whoLeaves 37 = .ok (.iload 4, 2) := dk_21 4 (dk_at dksX7_whoLeaves_1 13 rfl rfl)
theorem dX7_whoLeaves_39 : decode cX7_whoLeaves 39 = .ok (.iload_n 2, 1) := dk_28 (dk_at dksX7_whoLeaves_1 15 rfl rfl)
theorem dX7_whoLeaves_40 : decode cX7_whoLeaves 40 = .ok (.iload_n 3, 1) := dk_29 (dk_at dksX7_whoLeaves_1 16 rfl rfl)
theorem dX7_whoLeaves_41 : decode cX7_whoLeaves 41 = .ok (.invokevirtual 472, 3) := dk_182 1 216 (dk_at dksX7_whoLeaves_1 17 rfl rfl)
theorem dX7_whoLeaves_44 : decode cX7_whoLeaves 44 = .ok (.ifCond .eq 7, 3) := dk_153 0 7 (dk_at dksX7_whoLeaves_1 20 rfl rfl)
theorem dX7_whoLeaves_47 : decode cX7_whoLeaves 47 = .ok (.iload 5, 2) := dk_21 5 (dk_at dksX7_whoLeaves_2 0 rfl rfl)
theorem dX7_whoLeaves_49 : decode cX7_whoLeaves 49 = .ok (.istore 4, 2) := dk_54 4 (dk_at dksX7_whoLeaves_2 2 rfl rfl)
theorem dX7_whoLeaves_51 : decode cX7_whoLeaves 51 = .ok (.iinc 5 1, 3) := dk_132 5 1 (dk_at dksX7_whoLeaves_2 4 rfl rfl)
theorem dX7_whoLeaves_54 : decode cX7_whoLeaves 54 = .ok (.goto (-48), 3) := dk_167 255 208 (dk_at dksX7_whoLeaves_2 7 rfl rfl)
theorem dX7_whoLeaves_57 : decode cX7_whoLeaves 57 = .ok (.iload 4, 2) := dk_21 4 (dk_at dksX7_whoLeaves_2 10 rfl rfl)
theorem dX7_whoLeaves_59 : decode cX7_whoLeaves 59 = .ok (.ireturn, 1) := dk_172 (dk_at dksX7_whoLeaves_2 12 rfl rfl)
abbrev cX7_leavesAhead : ByteArray := prog_32_method_116_code
def yX7_leavesAhead : MethodName := ⟨RX7, "leavesAhead", "(IIIII)Z"⟩
def dkwX7_leavesAhead_9 : List UInt8 := [182, 1, 206, 42, 27, 29, 182, 1, 206, 162, 0, 7, 4, 167, 0, 4, 3, 172]
abbrev dktX7_leavesAhead_9 : List UInt8 := dkwX7_leavesAhead_9 ++ []
def dkwX7_leavesAhead_8 : List UInt8 := [182, 1, 209, 54, 7, 21, 6, 21, 7, 163, 0, 25, 21, 6, 21, 7, 160, 0, 22, 42, 27, 28]
abbrev dktX7_leavesAhead_8 : List UInt8 := dkwX7_leavesAhead_8 ++ dktX7_leavesAhead_9
def dkwX7_leavesAhead_7 : List UInt8 := [162, 0, 7, 4, 167, 0, 4, 3, 172, 42, 27, 28, 21, 4, 182, 1, 209, 54, 6, 42, 27, 29, 21, 4]
abbrev dktX7_leavesAhead_7 : List UInt8 := dkwX7_leavesAhead_7 ++ dktX7_leavesAhead_8
def dkwX7_leavesAhead_6 : List UInt8 := [28, 46, 42, 180, 0, 115, 29, 46, 160, 0, 22, 42, 180, 0, 112, 28, 46, 42, 180, 0, 112, 29, 46]
abbrev dktX7_leavesAhead_6 : List UInt8 := dkwX7_leavesAhead_6 ++ dktX7_leavesAhead_7
def dkwX7_leavesAhead_5 : List UInt8 := [167, 0, 4, 3, 172, 42, 180, 0, 115, 28, 46, 42, 180, 0, 115, 29, 46, 161, 0, 33, 42, 180, 0, 115]
abbrev dktX7_leavesAhead_5 : List UInt8 := dkwX7_leavesAhead_5 ++ dktX7_leavesAhead_6
def dkwX7_leavesAhead_4 : List UInt8 := [16, 32, 21, 5, 104, 28, 96, 46, 42, 180, 0, 121, 16, 32, 21, 5, 104, 29, 96, 46, 162, 0, 7, 4]
abbrev dktX7_leavesAhead_4 : List UInt8 := dkwX7_leavesAhead_4 ++ dktX7_leavesAhead_5
def dkwX7_leavesAhead_3 : List UInt8 := [180, 0, 112, 28, 46, 42, 180, 0, 112, 29, 46, 164, 0, 7, 4, 167, 0, 4, 3, 172, 42, 180, 0, 121]
abbrev dktX7_leavesAhead_3 : List UInt8 := dkwX7_leavesAhead_3 ++ dktX7_leavesAhead_4
def dkwX7_leavesAhead_2 : List UInt8 := [42, 180, 0, 112, 28, 46, 42, 180, 0, 112, 29, 46, 162, 0, 7, 4, 167, 0, 4, 3, 172, 42]
abbrev dktX7_leavesAhead_2 : List UInt8 := dkwX7_leavesAhead_2 ++ dktX7_leavesAhead_3
def dkwX7_leavesAhead_1 : List UInt8 := [170, 0, 0, 0, 0, 0, 0, 158, 0, 0, 0, 0, 0, 0, 0, 3, 0, 0, 0, 32, 0, 0, 0, 53, 0, 0, 0, 74, 0, 0, 0, 107]
abbrev dktX7_leavesAhead_1 : List UInt8 := dkwX7_leavesAhead_1 ++ dktX7_leavesAhead_2
def dkwX7_leavesAhead_0 : List UInt8 := [42, 180, 0, 28, 17, 1, 113, 46]
abbrev dktX7_leavesAhead_0 : List UInt8 := dkwX7_leavesAhead_0 ++ dktX7_leavesAhead_1
theorem dksX7_leavesAhead_0 : cX7_leavesAhead.data.toList.drop 0 = dktX7_leavesAhead_0 := by decide +kernel
theorem dksX7_leavesAhead_1 : cX7_leavesAhead.data.toList.drop 8 = dktX7_leavesAhead_1 := dk_seg dksX7_leavesAhead_0 8 rfl rfl
theorem dksX7_leavesAhead_2 : cX7_leavesAhead.data.toList.drop 40 = dktX7_leavesAhead_2 := dk_seg dksX7_leavesAhead_1 32 rfl rfl
theorem dksX7_leavesAhead_3 : cX7_leavesAhead.data.toList.drop 62 = dktX7_leavesAhead_3 := dk_seg dksX7_leavesAhead_2 22 rfl rfl
theorem dksX7_leavesAhead_4 : cX7_leavesAhead.data.toList.drop 86 = dktX7_leavesAhead_4 := dk_seg dksX7_leavesAhead_3 24 rfl rfl
theorem dksX7_leavesAhead_5 : cX7_leavesAhead.data.toList.drop 110 = dktX7_leavesAhead_5 := dk_seg dksX7_leavesAhead_4 24 rfl rfl
theorem dksX7_leavesAhead_6 : cX7_leavesAhead.data.toList.drop 134 = dktX7_leavesAhead_6 := dk_seg dksX7_leavesAhead_5 24 rfl rfl
theorem dksX7_leavesAhead_7 : cX7_leavesAhead.data.toList.drop 157 = dktX7_leavesAhead_7 := dk_seg dksX7_leavesAhead_6 23 rfl rfl
theorem dksX7_leavesAhead_8 : cX7_leavesAhead.data.toList.drop 181 = dktX7_leavesAhead_8 := dk_seg dksX7_leavesAhead_7 24 rfl rfl
theorem dksX7_leavesAhead_9 : cX7_leavesAhead.data.toList.drop 203 = dktX7_leavesAhead_9 := dk_seg dksX7_leavesAhead_8 22 rfl rfl
theorem dX7_leavesAhead_0 : decode cX7_leavesAhead 0 = .ok (.aload_n 0, 1) := dk_42 (dk_at dksX7_leavesAhead_0 0 rfl rfl)
theorem dX7_leavesAhead_1 : decode cX7_leavesAhead 1 = .ok (.getfield 28, 3) := dk_180 0 28 (dk_at dksX7_leavesAhead_0 1 rfl rfl)
theorem dX7_leavesAhead_4 : decode cX7_leavesAhead 4 = .ok (.sipush 369, 3) := dk_17 1 113 (dk_at dksX7_leavesAhead_0 4 rfl rfl)
theorem dX7_leavesAhead_7 : decode cX7_leavesAhead 7 = .ok (.iaload, 1) := dk_46 (dk_at dksX7_leavesAhead_0 7 rfl rfl)
theorem dX7_leavesAhead_8 : decode cX7_leavesAhead 8 = .ok (.tableswitch 158 0 3 #[32, 53, 74, 107], 32) := by decide +kernel
theorem dX7_leavesAhead_40 : decode cX7_leavesAhead 40 = .ok (.aload_n 0, 1) := dk_42 (dk_at dksX7_leavesAhead_2 0 rfl rfl)
theorem dX7_leavesAhead_41 : decode cX7_leavesAhead 41 = .ok (.getfield 112, 3) := dk_180 0 112 (dk_at dksX7_leavesAhead_2 1 rfl rfl)
theorem dX7_leavesAhead_44 : decode cX7_leavesAhead 44 = .ok (.iload_n 2, 1) := dk_28 (dk_at dksX7_leavesAhead_2 4 rfl rfl)
theorem dX7_leavesAhead_45 : decode cX7_leavesAhead 45 = .ok (.iaload, 1) := dk_46 (dk_at dksX7_leavesAhead_2 5 rfl rfl)
theorem dX7_leavesAhead_46 : decode cX7_leavesAhead 46 = .ok (.aload_n 0, 1) := dk_42 (dk_at dksX7_leavesAhead_2 6 rfl rfl)
theorem dX7_leavesAhead_47 : decode cX7_leavesAhead 47 = .ok (.getfield 112, 3) := dk_180 0 112 (dk_at dksX7_leavesAhead_2 7 rfl rfl)
theorem dX7_leavesAhead_50 : decode cX7_leavesAhead 50 = .ok (.iload_n 3, 1) := dk_29 (dk_at dksX7_leavesAhead_2 10 rfl rfl)
theorem dX7_leavesAhead_51 : decode cX7_leavesAhead 51 = .ok (.iaload, 1) := dk_46 (dk_at dksX7_leavesAhead_2 11 rfl rfl)
theorem dX7_leavesAhead_52 : decode cX7_leavesAhead 52 = .ok (.if_icmp .ge 7, 3) := dk_162 0 7 (dk_at dksX7_leavesAhead_2 12 rfl rfl)
theorem dX7_leavesAhead_55 : decode cX7_leavesAhead 55 = .ok (.iconst 1, 1) := dk_4 (dk_at dksX7_leavesAhead_2 15 rfl rfl)
theorem dX7_leavesAhead_56 : decode cX7_leavesAhead 56 = .ok (.goto 4, 3) := dk_167 0 4 (dk_at dksX7_leavesAhead_2 16 rfl rfl)
theorem dX7_leavesAhead_59 : decode cX7_leavesAhead 59 = .ok (.iconst 0, 1) := dk_3 (dk_at dksX7_leavesAhead_2 19 rfl rfl)
theorem dX7_leavesAhead_60 : decode cX7_leavesAhead 60 = .ok (.ireturn, 1) := dk_172 (dk_at dksX7_leavesAhead_2 20 rfl rfl)
theorem dX7_leavesAhead_61 : decode cX7_leavesAhead 61 = .ok (.aload_n 0, 1) := dk_42 (dk_at dksX7_leavesAhead_2 21 rfl rfl)
theorem dX7_leavesAhead_62 : decode cX7_leavesAhead 62 = .ok (.getfield 112, 3) := dk_180 0 112 (dk_at dksX7_leavesAhead_3 0 rfl rfl)
theorem dX7_leavesAhead_65 : decode cX7_leavesAhead 65 = .ok (.iload_n 2, 1) := dk_28 (dk_at dksX7_leavesAhead_3 3 rfl rfl)
theorem dX7_leavesAhead_66 : decode cX7_leavesAhead 66 = .ok (.iaload, 1) := dk_46 (dk_at dksX7_leavesAhead_3 4 rfl rfl)
theorem dX7_leavesAhead_67 : decode cX7_leavesAhead 67 = .ok (.aload_n 0, 1) := dk_42 (dk_at dksX7_leavesAhead_3 5 rfl rfl)
theorem dX7_leavesAhead_68 : decode cX7_leavesAhead 68 = .ok (.getfield 112, 3) := dk_180 0 112 (dk_at dksX7_leavesAhead_3 6 rfl rfl)
theorem dX7_leavesAhead_71 : decode cX7_leavesAhead 71 = .ok (.iload_n 3, 1) := dk_29 (dk_at dksX7_leavesAhead_3 9 rfl rfl)
theorem dX7_leavesAhead_72 : decode cX7_leavesAhead 72 = .ok (.iaload, 1) := dk_46 (dk_at dksX7_leavesAhead_3 10 rfl rfl)
theorem dX7_leavesAhead_73 : decode cX7_leavesAhead 73 = .ok (.if_icmp .le 7, 3) := dk_164 0 7 (dk_at dksX7_leavesAhead_3 11 rfl rfl)
theorem dX7_leavesAhead_76 : decode cX7_leavesAhead 76 = .ok (.iconst 1, 1) := dk_4 (dk_at dksX7_leavesAhead_3 14 rfl rfl)
theorem dX7_leavesAhead_77 : decode cX7_leavesAhead 77 = .ok (.goto 4, 3) := dk_167 0 4 (dk_at dksX7_leavesAhead_3 15 rfl rfl)
theorem dX7_leavesAhead_80 : decode cX7_leavesAhead 80 = .ok (.iconst 0, 1) := dk_3 (dk_at dksX7_leavesAhead_3 18 rfl rfl)
theorem dX7_leavesAhead_81 : decode cX7_leavesAhead 81 = .ok (.ireturn, 1) := dk_172 (dk_at dksX7_leavesAhead_3 19 rfl rfl)
theorem dX7_leavesAhead_82 : decode cX7_leavesAhead 82 = .ok (.aload_n 0, 1) := dk_42 (dk_at dksX7_leavesAhead_3 20 rfl rfl)
theorem dX7_leavesAhead_83 : decode cX7_leavesAhead 83 = .ok (.getfield 121, 3) := dk_180 0 121 (dk_at dksX7_leavesAhead_3 21 rfl rfl)
theorem dX7_leavesAhead_86 : decode cX7_leavesAhead 86 = .ok (.bipush 32, 2) := dk_16 32 (dk_at dksX7_leavesAhead_4 0 rfl rfl)
theorem dX7_leavesAhead_88 : decode cX7_leavesAhead 88 = .ok (.iload 5, 2) := dk_21 5 (dk_at dksX7_leavesAhead_4 2 rfl rfl)
theorem dX7_leavesAhead_90 : decode cX7_leavesAhead 90 = .ok (.imul, 1) := dk_104 (dk_at dksX7_leavesAhead_4 4 rfl rfl)
theorem dX7_leavesAhead_91 : decode cX7_leavesAhead 91 = .ok (.iload_n 2, 1) := dk_28 (dk_at dksX7_leavesAhead_4 5 rfl rfl)
theorem dX7_leavesAhead_92 : decode cX7_leavesAhead 92 = .ok (.iadd, 1) := dk_96 (dk_at dksX7_leavesAhead_4 6 rfl rfl)
theorem dX7_leavesAhead_93 : decode cX7_leavesAhead 93 = .ok (.iaload, 1) := dk_46 (dk_at dksX7_leavesAhead_4 7 rfl rfl)
theorem dX7_leavesAhead_94 : decode cX7_leavesAhead 94 = .ok (.aload_n 0, 1) := dk_42 (dk_at dksX7_leavesAhead_4 8 rfl rfl)
theorem dX7_leavesAhead_95 : decode cX7_leavesAhead 95 = .ok (.getfield 121, 3) := dk_180 0 121 (dk_at dksX7_leavesAhead_4 9 rfl rfl)
theorem dX7_leavesAhead_98 : decode cX7_leavesAhead 98 = .ok (.bipush 32, 2) := dk_16 32 (dk_at dksX7_leavesAhead_4 12 rfl rfl)
theorem dX7_leavesAhead_100 : decode cX7_leavesAhead 100 = .ok (.iload 5, 2) := dk_21 5 (dk_at dksX7_leavesAhead_4 14 rfl rfl)
theorem dX7_leavesAhead_102 : decode cX7_leavesAhead 102 = .ok (.imul, 1) := dk_104 (dk_at dksX7_leavesAhead_4 16 rfl rfl)
theorem dX7_leavesAhead_103 : decode cX7_leavesAhead 103 = .ok (.iload_n 3, 1) := dk_29 (dk_at dksX7_leavesAhead_4 17 rfl rfl)
theorem dX7_leavesAhead_104 : decode cX7_leavesAhead 104 = .ok (.iadd, 1) := dk_96 (dk_at dksX7_leavesAhead_4 18 rfl rfl)
theorem dX7_leavesAhead_105 : decode cX7_leavesAhead 105 = .ok (.iaload, 1) := dk_46 (dk_at dksX7_leavesAhead_4 19 rfl rfl)
theorem dX7_leavesAhead_106 : decode cX7_leavesAhead 106 = .ok (.if_icmp .ge 7, 3) := dk_162 0 7 (dk_at dksX7_leavesAhead_4 20 rfl rfl)
theorem dX7_leavesAhead_109 : decode cX7_leavesAhead 109 = .ok (.iconst 1, 1) := dk_4 (dk_at dksX7_leavesAhead_4 23 rfl rfl)
theorem dX7_leavesAhead_110 : decode cX7_leavesAhead 110 = .ok (.goto 4, 3) := dk_167 0 4 (dk_at dksX7_leavesAhead_5 0 rfl rfl)
theorem dX7_leavesAhead_113 : decode cX7_leavesAhead 113 = .ok (.iconst 0, 1) := dk_3 (dk_at dksX7_leavesAhead_5 3 rfl rfl)
theorem dX7_leavesAhead_114 : decode cX7_leavesAhead 114 = .ok (.ireturn, 1) := dk_172 (dk_at dksX7_leavesAhead_5 4 rfl rfl)
theorem dX7_leavesAhead_115 : decode cX7_leavesAhead 115 = .ok (.aload_n 0, 1) := dk_42 (dk_at dksX7_leavesAhead_5 5 rfl rfl)
theorem dX7_leavesAhead_116 : decode cX7_leavesAhead 116 = .ok (.getfield 115, 3) := dk_180 0 115 (dk_at dksX7_leavesAhead_5 6 rfl rfl)
theorem dX7_leavesAhead_119 : decode cX7_leavesAhead 119 = .ok (.iload_n 2, 1) := dk_28 (dk_at dksX7_leavesAhead_5 9 rfl rfl)
theorem dX7_leavesAhead_120 : decode cX7_leavesAhead 120 = .ok (.iaload, 1) := dk_46 (dk_at dksX7_leavesAhead_5 10 rfl rfl)
theorem dX7_leavesAhead_121 : decode cX7_leavesAhead 121 = .ok (.aload_n 0, 1) := dk_42 (dk_at dksX7_leavesAhead_5 11 rfl rfl)
theorem dX7_leavesAhead_122 : decode cX7_leavesAhead 122 = .ok (.getfield 115, 3) := dk_180 0 115 (dk_at dksX7_leavesAhead_5 12 rfl rfl)
theorem dX7_leavesAhead_125 : decode cX7_leavesAhead 125 = .ok (.iload_n 3, 1) := dk_29 (dk_at dksX7_leavesAhead_5 15 rfl rfl)
theorem dX7_leavesAhead_126 : decode cX7_leavesAhead 126 = .ok (.iaload, 1) := dk_46 (dk_at dksX7_leavesAhead_5 16 rfl rfl)
theorem dX7_leavesAhead_127 : decode cX7_leavesAhead 127 = .ok (.if_icmp .lt 33, 3) := dk_161 0 33 (dk_at dksX7_leavesAhead_5 17 rfl rfl)
theorem dX7_leavesAhead_130 : decode cX7_leavesAhead 130 = .ok (.aload_n 0, 1) := dk_42 (dk_at dksX7_leavesAhead_5 20 rfl rfl)
theorem dX7_leavesAhead_131 : decode cX7_leavesAhead 131 = .ok (.getfield 115, 3) := dk_180 0 115 (dk_at dksX7_leavesAhead_5 21 rfl rfl)
theorem dX7_leavesAhead_134 : decode cX7_leavesAhead 134 = .ok (.iload_n 2, 1) := dk_28 (dk_at dksX7_leavesAhead_6 0 rfl rfl)
theorem dX7_leavesAhead_135 : decode cX7_leavesAhead 135 = .ok (.iaload, 1) := dk_46 (dk_at dksX7_leavesAhead_6 1 rfl rfl)
theorem dX7_leavesAhead_136 : decode cX7_leavesAhead 136 = .ok (.aload_n 0, 1) := dk_42 (dk_at dksX7_leavesAhead_6 2 rfl rfl)
theorem dX7_leavesAhead_137 : decode cX7_leavesAhead 137 = .ok (.getfield 115, 3) := dk_180 0 115 (dk_at dksX7_leavesAhead_6 3 rfl rfl)
theorem dX7_leavesAhead_140 : decode cX7_leavesAhead 140 = .ok (.iload_n 3, 1) := dk_29 (dk_at dksX7_leavesAhead_6 6 rfl rfl)
theorem dX7_leavesAhead_141 : decode cX7_leavesAhead 141 = .ok (.iaload, 1) := dk_46 (dk_at dksX7_leavesAhead_6 7 rfl rfl)
theorem dX7_leavesAhead_142 : decode cX7_leavesAhead 142 = .ok (.if_icmp .ne 22, 3) := dk_160 0 22 (dk_at dksX7_leavesAhead_6 8 rfl rfl)
theorem dX7_leavesAhead_145 : decode cX7_leavesAhead 145 = .ok (.aload_n 0, 1) := dk_42 (dk_at dksX7_leavesAhead_6 11 rfl rfl)
theorem dX7_leavesAhead_146 : decode cX7_leavesAhead 146 = .ok (.getfield 112, 3) := dk_180 0 112 (dk_at dksX7_leavesAhead_6 12 rfl rfl)
theorem dX7_leavesAhead_149 : decode cX7_leavesAhead 149 = .ok (.iload_n 2, 1) := dk_28 (dk_at dksX7_leavesAhead_6 15 rfl rfl)
theorem dX7_leavesAhead_150 : decode cX7_leavesAhead 150 = .ok (.iaload, 1) := dk_46 (dk_at dksX7_leavesAhead_6 16 rfl rfl)
theorem dX7_leavesAhead_151 : decode cX7_leavesAhead 151 = .ok (.aload_n 0, 1) := dk_42 (dk_at dksX7_leavesAhead_6 17 rfl rfl)
theorem dX7_leavesAhead_152 : decode cX7_leavesAhead 152 = .ok (.getfield 112, 3) := dk_180 0 112 (dk_at dksX7_leavesAhead_6 18 rfl rfl)
theorem dX7_leavesAhead_155 : decode cX7_leavesAhead 155 = .ok (.iload_n 3, 1) := dk_29 (dk_at dksX7_leavesAhead_6 21 rfl rfl)
theorem dX7_leavesAhead_156 : decode cX7_leavesAhead 156 = .ok (.iaload, 1) := dk_46 (dk_at dksX7_leavesAhead_6 22 rfl rfl)
theorem dX7_leavesAhead_157 : decode cX7_leavesAhead 157 = .ok (.if_icmp .ge 7, 3) := dk_162 0 7 (dk_at dksX7_leavesAhead_7 0 rfl rfl)
theorem dX7_leavesAhead_160 : decode cX7_leavesAhead 160 = .ok (.iconst 1, 1) := dk_4 (dk_at dksX7_leavesAhead_7 3 rfl rfl)
theorem dX7_leavesAhead_161 : decode cX7_leavesAhead 161 = .ok (.goto 4, 3) := dk_167 0 4 (dk_at dksX7_leavesAhead_7 4 rfl rfl)
theorem dX7_leavesAhead_164 : decode cX7_leavesAhead 164 = .ok (.iconst 0, 1) := dk_3 (dk_at dksX7_leavesAhead_7 7 rfl rfl)
theorem dX7_leavesAhead_165 : decode cX7_leavesAhead 165 = .ok (.ireturn, 1) := dk_172 (dk_at dksX7_leavesAhead_7 8 rfl rfl)
theorem dX7_leavesAhead_166 : decode cX7_leavesAhead 166 = .ok (.aload_n 0, 1) := dk_42 (dk_at dksX7_leavesAhead_7 9 rfl rfl)
theorem dX7_leavesAhead_167 : decode cX7_leavesAhead 167 = .ok (.iload_n 1, 1) := dk_27 (dk_at dksX7_leavesAhead_7 10 rfl rfl)
theorem dX7_leavesAhead_168 : decode cX7_leavesAhead 168 = .ok (.iload_n 2, 1) := dk_28 (dk_at dksX7_leavesAhead_7 11 rfl rfl)
theorem dX7_leavesAhead_169 : decode cX7_leavesAhead 169 = .ok (.iload 4, 2) := dk_21 4 (dk_at dksX7_leavesAhead_7 12 rfl rfl)
theorem dX7_leavesAhead_171 : decode cX7_leavesAhead 171 = .ok (.invokevirtual 465, 3) := dk_182 1 209 (dk_at dksX7_leavesAhead_7 14 rfl rfl)
theorem dX7_leavesAhead_174 : decode cX7_leavesAhead 174 = .ok (.istore 6, 2) := dk_54 6 (dk_at dksX7_leavesAhead_7 17 rfl rfl)
theorem dX7_leavesAhead_176 : decode cX7_leavesAhead 176 = .ok (.aload_n 0, 1) := dk_42 (dk_at dksX7_leavesAhead_7 19 rfl rfl)
theorem dX7_leavesAhead_177 : decode cX7_leavesAhead 177 = .ok (.iload_n 1, 1) := dk_27 (dk_at dksX7_leavesAhead_7 20 rfl rfl)
theorem dX7_leavesAhead_178 : decode cX7_leavesAhead 178 = .ok (.iload_n 3, 1) := dk_29 (dk_at dksX7_leavesAhead_7 21 rfl rfl)
theorem dX7_leavesAhead_179 : decode cX7_leavesAhead 179 = .ok (.iload 4, 2) := dk_21 4 (dk_at dksX7_leavesAhead_7 22 rfl rfl)
theorem dX7_leavesAhead_181 : decode cX7_leavesAhead 181 = .ok (.invokevirtual 465, 3) := dk_182 1 209 (dk_at dksX7_leavesAhead_8 0 rfl rfl)
theorem dX7_leavesAhead_184 : decode cX7_leavesAhead 184 = .ok (.istore 7, 2) := dk_54 7 (dk_at dksX7_leavesAhead_8 3 rfl rfl)
theorem dX7_leavesAhead_186 : decode cX7_leavesAhead 186 = .ok (.iload 6, 2) := dk_21 6 (dk_at dksX7_leavesAhead_8 5 rfl rfl)
theorem dX7_leavesAhead_188 : decode cX7_leavesAhead 188 = .ok (.iload 7, 2) := dk_21 7 (dk_at dksX7_leavesAhead_8 7 rfl rfl)
theorem dX7_leavesAhead_190 : decode cX7_leavesAhead 190 = .ok (.if_icmp .gt 25, 3) := dk_163 0 25 (dk_at dksX7_leavesAhead_8 9 rfl rfl)
theorem dX7_leavesAhead_193 : decode cX7_leavesAhead 193 = .ok (.iload 6, 2) := dk_21 6 (dk_at dksX7_leavesAhead_8 12 rfl rfl)
theorem dX7_leavesAhead_195 : decode cX7_leavesAhead 195 = .ok (.iload 7, 2) := dk_21 7 (dk_at dksX7_leavesAhead_8 14 rfl rfl)
theorem dX7_leavesAhead_197 : decode cX7_leavesAhead 197 = .ok (.if_icmp .ne 22, 3) := dk_160 0 22 (dk_at dksX7_leavesAhead_8 16 rfl rfl)
theorem dX7_leavesAhead_200 : decode cX7_leavesAhead 200 = .ok (.aload_n 0, 1) := dk_42 (dk_at dksX7_leavesAhead_8 19 rfl rfl)
theorem dX7_leavesAhead_201 : decode cX7_leavesAhead 201 = .ok (.iload_n 1, 1) := dk_27 (dk_at dksX7_leavesAhead_8 20 rfl rfl)
theorem dX7_leavesAhead_202 : decode cX7_leavesAhead 202 = .ok (.iload_n 2, 1) := dk_28 (dk_at dksX7_leavesAhead_8 21 rfl rfl)
theorem dX7_leavesAhead_203 : decode cX7_leavesAhead 203 = .ok (.invokevirtual 462, 3) := dk_182 1 206 (dk_at dksX7_leavesAhead_9 0 rfl rfl)
theorem dX7_leavesAhead_206 : decode cX7_leavesAhead 206 = .ok (.aload_n 0, 1) := dk_42 (dk_at dksX7_leavesAhead_9 3 rfl rfl)
theorem dX7_leavesAhead_207 : decode cX7_leavesAhead 207 = .ok (.iload_n 1, 1) := dk_27 (dk_at dksX7_leavesAhead_9 4 rfl rfl)
theorem dX7_leavesAhead_208 : decode cX7_leavesAhead 208 = .ok (.iload_n 3, 1) := dk_29 (dk_at dksX7_leavesAhead_9 5 rfl rfl)
theorem dX7_leavesAhead_209 : decode cX7_leavesAhead 209 = .ok (.invokevirtual 462, 3) := dk_182 1 206 (dk_at dksX7_leavesAhead_9 6 rfl rfl)
theorem dX7_leavesAhead_212 : decode cX7_leavesAhead 212 = .ok (.if_icmp .ge 7, 3) := dk_162 0 7 (dk_at dksX7_leavesAhead_9 9 rfl rfl)
theorem dX7_leavesAhead_215 : decode cX7_leavesAhead 215 = .ok (.iconst 1, 1) := dk_4 (dk_at dksX7_leavesAhead_9 12 rfl rfl)
theorem dX7_leavesAhead_216 : decode cX7_leavesAhead 216 = .ok (.goto 4, 3) := dk_167 0 4 (dk_at dksX7_leavesAhead_9 13 rfl rfl)
theorem dX7_leavesAhead_219 : decode cX7_leavesAhead 219 = .ok (.iconst 0, 1) := dk_3 (dk_at dksX7_leavesAhead_9 16 rfl rfl)
theorem dX7_leavesAhead_220 : decode cX7_leavesAhead 220 = .ok (.ireturn, 1) := dk_172 (dk_at dksX7_leavesAhead_9 17 rfl rfl)
abbrev cX7_againAt : ByteArray := prog_32_method_115_code
def yX7_againAt : MethodName := ⟨RX7, "againAt", "(III)I"⟩
def dkwX7_againAt_2 : List UInt8 := [19, 1, 199, 172]
abbrev dktX7_againAt_2 : List UInt8 := dkwX7_againAt_2 ++ []
def dkwX7_againAt_1 : List UInt8 := [162, 0, 23, 42, 180, 0, 109, 21, 5, 46, 28, 160, 0, 6, 21, 5, 172, 132, 5, 1, 167, 255, 232]
abbrev dktX7_againAt_1 : List UInt8 := dkwX7_againAt_1 ++ dktX7_againAt_2
def dkwX7_againAt_0 : List UInt8 := [42, 180, 0, 28, 27, 16, 59, 184, 0, 142, 46, 54, 4, 29, 4, 96, 54, 5, 21, 5, 21, 4]
abbrev dktX7_againAt_0 : List UInt8 := dkwX7_againAt_0 ++ dktX7_againAt_1
theorem dksX7_againAt_0 : cX7_againAt.data.toList.drop 0 = dktX7_againAt_0 := by decide +kernel
theorem dksX7_againAt_1 : cX7_againAt.data.toList.drop 22 = dktX7_againAt_1 := dk_seg dksX7_againAt_0 22 rfl rfl
theorem dksX7_againAt_2 : cX7_againAt.data.toList.drop 45 = dktX7_againAt_2 := dk_seg dksX7_againAt_1 23 rfl rfl
theorem dX7_againAt_0 : decode cX7_againAt 0 = .ok (.aload_n 0, 1) := dk_42 (dk_at dksX7_againAt_0 0 rfl rfl)
theorem dX7_againAt_1 : decode cX7_againAt 1 = .ok (.getfield 28, 3) := dk_180 0 28 (dk_at dksX7_againAt_0 1 rfl rfl)
theorem dX7_againAt_4 : decode cX7_againAt 4 = .ok (.iload_n 1, 1) := dk_27 (dk_at dksX7_againAt_0 4 rfl rfl)
theorem dX7_againAt_5 : decode cX7_againAt 5 = .ok (.bipush 59, 2) := dk_16 59 (dk_at dksX7_againAt_0 5 rfl rfl)
theorem dX7_againAt_7 : decode cX7_againAt 7 = .ok (.invokestatic 142, 3) := dk_184 0 142 (dk_at dksX7_againAt_0 7 rfl rfl)
theorem dX7_againAt_10 : decode cX7_againAt 10 = .ok (.iaload, 1) := dk_46 (dk_at dksX7_againAt_0 10 rfl rfl)
theorem dX7_againAt_11 : decode cX7_againAt 11 = .ok (.istore 4, 2) := dk_54 4 (dk_at dksX7_againAt_0 11 rfl rfl)
theorem dX7_againAt_13 : decode cX7_againAt 13 = .ok (.iload_n 3, 1) := dk_29 (dk_at dksX7_againAt_0 13 rfl rfl)
theorem dX7_againAt_14 : decode cX7_againAt 14 = .ok (.iconst 1, 1) := dk_4 (dk_at dksX7_againAt_0 14 rfl rfl)
theorem dX7_againAt_15 : decode cX7_againAt 15 = .ok (.iadd, 1) := dk_96 (dk_at dksX7_againAt_0 15 rfl rfl)
theorem dX7_againAt_16 : decode cX7_againAt 16 = .ok (.istore 5, 2) := dk_54 5 (dk_at dksX7_againAt_0 16 rfl rfl)
theorem dX7_againAt_18 : decode cX7_againAt 18 = .ok (.iload 5, 2) := dk_21 5 (dk_at dksX7_againAt_0 18 rfl rfl)
theorem dX7_againAt_20 : decode cX7_againAt 20 = .ok (.iload 4, 2) := dk_21 4 (dk_at dksX7_againAt_0 20 rfl rfl)
theorem dX7_againAt_22 : decode cX7_againAt 22 = .ok (.if_icmp .ge 23, 3) := dk_162 0 23 (dk_at dksX7_againAt_1 0 rfl rfl)
theorem dX7_againAt_25 : decode cX7_againAt 25 = .ok (.aload_n 0, 1) := dk_42 (dk_at dksX7_againAt_1 3 rfl rfl)
theorem dX7_againAt_26 : decode cX7_againAt 26 = .ok (.getfield 109, 3) := dk_180 0 109 (dk_at dksX7_againAt_1 4 rfl rfl)
theorem dX7_againAt_29 : decode cX7_againAt 29 = .ok (.iload 5, 2) := dk_21 5 (dk_at dksX7_againAt_1 7 rfl rfl)
theorem dX7_againAt_31 : decode cX7_againAt 31 = .ok (.iaload, 1) := dk_46 (dk_at dksX7_againAt_1 9 rfl rfl)
theorem dX7_againAt_32 : decode cX7_againAt 32 = .ok (.iload_n 2, 1) := dk_28 (dk_at dksX7_againAt_1 10 rfl rfl)
theorem dX7_againAt_33 : decode cX7_againAt 33 = .ok (.if_icmp .ne 6, 3) := dk_160 0 6 (dk_at dksX7_againAt_1 11 rfl rfl)
theorem dX7_againAt_36 : decode cX7_againAt 36 = .ok (.iload 5, 2) := dk_21 5 (dk_at dksX7_againAt_1 14 rfl rfl)
theorem dX7_againAt_38 : decode cX7_againAt 38 = .ok (.ireturn, 1) := dk_172 (dk_at dksX7_againAt_1 16 rfl rfl)
theorem dX7_againAt_39 : decode cX7_againAt 39 = .ok (.iinc 5 1, 3) := dk_132 5 1 (dk_at dksX7_againAt_1 17 rfl rfl)
theorem dX7_againAt_42 : decode cX7_againAt 42 = .ok (.goto (-24), 3) := dk_167 255 232 (dk_at dksX7_againAt_1 20 rfl rfl)
theorem dX7_againAt_45 : decode cX7_againAt 45 = .ok (.ldc_w 455, 3) := dk_19 1 199 (dk_at dksX7_againAt_2 0 rfl rfl)
theorem dX7_againAt_48 : decode cX7_againAt 48 = .ok (.ireturn, 1) := dk_172 (dk_at dksX7_againAt_2 3 rfl rfl)
abbrev cX7_wasRead : ByteArray := prog_32_method_120_code
def yX7_wasRead : MethodName := ⟨RX7, "wasRead", "(I)V"⟩
def dkwX7_wasRead_1 : List UInt8 := [4, 96, 79, 177]
abbrev dktX7_wasRead_1 : List UInt8 := dkwX7_wasRead_1 ++ []
def dkwX7_wasRead_0 : List UInt8 := [42, 180, 0, 112, 42, 180, 0, 109, 27, 46, 27, 79, 42, 180, 0, 115, 42, 180, 0, 109, 27, 46, 92, 46]
abbrev dktX7_wasRead_0 : List UInt8 := dkwX7_wasRead_0 ++ dktX7_wasRead_1
theorem dksX7_wasRead_0 : cX7_wasRead.data.toList.drop 0 = dktX7_wasRead_0 := by decide +kernel
theorem dksX7_wasRead_1 : cX7_wasRead.data.toList.drop 24 = dktX7_wasRead_1 := dk_seg dksX7_wasRead_0 24 rfl rfl
theorem dX7_wasRead_0 : decode cX7_wasRead 0 = .ok (.aload_n 0, 1) := dk_42 (dk_at dksX7_wasRead_0 0 rfl rfl)
theorem dX7_wasRead_1 : decode cX7_wasRead 1 = .ok (.getfield 112, 3) := dk_180 0 112 (dk_at dksX7_wasRead_0 1 rfl rfl)
theorem dX7_wasRead_4 : decode cX7_wasRead 4 = .ok (.aload_n 0, 1) := dk_42 (dk_at dksX7_wasRead_0 4 rfl rfl)
theorem dX7_wasRead_5 : decode cX7_wasRead 5 = .ok (.getfield 109, 3) := dk_180 0 109 (dk_at dksX7_wasRead_0 5 rfl rfl)
theorem dX7_wasRead_8 : decode cX7_wasRead 8 = .ok (.iload_n 1, 1) := dk_27 (dk_at dksX7_wasRead_0 8 rfl rfl)
theorem dX7_wasRead_9 : decode cX7_wasRead 9 = .ok (.iaload, 1) := dk_46 (dk_at dksX7_wasRead_0 9 rfl rfl)
theorem dX7_wasRead_10 : decode cX7_wasRead 10 = .ok (.iload_n 1, 1) := dk_27 (dk_at dksX7_wasRead_0 10 rfl rfl)
theorem dX7_wasRead_11 : decode cX7_wasRead 11 = .ok (.iastore, 1) := dk_79 (dk_at dksX7_wasRead_0 11 rfl rfl)
theorem dX7_wasRead_12 : decode cX7_wasRead 12 = .ok (.aload_n 0, 1) := dk_42 (dk_at dksX7_wasRead_0 12 rfl rfl)
theorem dX7_wasRead_13 : decode cX7_wasRead 13 = .ok (.getfield 115, 3) := dk_180 0 115 (dk_at dksX7_wasRead_0 13 rfl rfl)
theorem dX7_wasRead_16 : decode cX7_wasRead 16 = .ok (.aload_n 0, 1) := dk_42 (dk_at dksX7_wasRead_0 16 rfl rfl)
theorem dX7_wasRead_17 : decode cX7_wasRead 17 = .ok (.getfield 109, 3) := dk_180 0 109 (dk_at dksX7_wasRead_0 17 rfl rfl)
theorem dX7_wasRead_20 : decode cX7_wasRead 20 = .ok (.iload_n 1, 1) := dk_27 (dk_at dksX7_wasRead_0 20 rfl rfl)
theorem dX7_wasRead_21 : decode cX7_wasRead 21 = .ok (.iaload, 1) := dk_46 (dk_at dksX7_wasRead_0 21 rfl rfl)
theorem dX7_wasRead_22 : decode cX7_wasRead 22 = .ok (.dup2, 1) := dk_92 (dk_at dksX7_wasRead_0 22 rfl rfl)
theorem dX7_wasRead_23 : decode cX7_wasRead 23 = .ok (.iaload, 1) := dk_46 (dk_at dksX7_wasRead_0 23 rfl rfl)
theorem dX7_wasRead_24 : decode cX7_wasRead 24 = .ok (.iconst 1, 1) := dk_4 (dk_at dksX7_wasRead_1 0 rfl rfl)
theorem dX7_wasRead_25 : decode cX7_wasRead 25 = .ok (.iadd, 1) := dk_96 (dk_at dksX7_wasRead_1 1 rfl rfl)
theorem dX7_wasRead_26 : decode cX7_wasRead 26 = .ok (.iastore, 1) := dk_79 (dk_at dksX7_wasRead_1 2 rfl rfl)
theorem dX7_wasRead_27 : decode cX7_wasRead 27 = .ok (.return_, 1) := dk_177 (dk_at dksX7_wasRead_1 3 rfl rfl)
abbrev cX7_odd : ByteArray := prog_32_method_123_code
def yX7_odd : MethodName := ⟨RX7, "odd", "(I)I"⟩
def dkwX7_odd_2 : List UInt8 := [2, 172]
abbrev dktX7_odd_2 : List UInt8 := dkwX7_odd_2 ++ []
def dkwX7_odd_1 : List UInt8 := [180, 0, 124, 28, 4, 96, 46, 42, 180, 0, 124, 28, 46, 164, 0, 5, 28, 172, 132, 2, 1, 167, 255, 228]
abbrev dktX7_odd_1 : List UInt8 := dkwX7_odd_1 ++ dktX7_odd_2
def dkwX7_odd_0 : List UInt8 := [27, 184, 0, 152, 154, 0, 5, 2, 172, 42, 27, 182, 1, 235, 3, 61, 28, 16, 24, 162, 0, 28, 42]
abbrev dktX7_odd_0 : List UInt8 := dkwX7_odd_0 ++ dktX7_odd_1
theorem dksX7_odd_0 : cX7_odd.data.toList.drop 0 = dktX7_odd_0 := by decide +kernel
theorem dksX7_odd_1 : cX7_odd.data.toList.drop 23 = dktX7_odd_1 := dk_seg dksX7_odd_0 23 rfl rfl
theorem dksX7_odd_2 : cX7_odd.data.toList.drop 47 = dktX7_odd_2 := dk_seg dksX7_odd_1 24 rfl rfl
theorem dX7_odd_0 : decode cX7_odd 0 = .ok (.iload_n 1, 1) := dk_27 (dk_at dksX7_odd_0 0 rfl rfl)
theorem dX7_odd_1 : decode cX7_odd 1 = .ok (.invokestatic 152, 3) := dk_184 0 152 (dk_at dksX7_odd_0 1 rfl rfl)
theorem dX7_odd_4 : decode cX7_odd 4 = .ok (.ifCond .ne 5, 3) := dk_154 0 5 (dk_at dksX7_odd_0 4 rfl rfl)
theorem dX7_odd_7 : decode cX7_odd 7 = .ok (.iconst (-1), 1) := dk_2 (dk_at dksX7_odd_0 7 rfl rfl)
theorem dX7_odd_8 : decode cX7_odd 8 = .ok (.ireturn, 1) := dk_172 (dk_at dksX7_odd_0 8 rfl rfl)
theorem dX7_odd_9 : decode cX7_odd 9 = .ok (.aload_n 0, 1) := dk_42 (dk_at dksX7_odd_0 9 rfl rfl)
theorem dX7_odd_10 : decode cX7_odd 10 = .ok (.iload_n 1, 1) := dk_27 (dk_at dksX7_odd_0 10 rfl rfl)
theorem dX7_odd_11 : decode cX7_odd 11 = .ok (.invokevirtual 491, 3) := dk_182 1 235 (dk_at dksX7_odd_0 11 rfl rfl)
theorem dX7_odd_14 : decode cX7_odd 14 = .ok (.iconst 0, 1) := dk_3 (dk_at dksX7_odd_0 14 rfl rfl)
theorem dX7_odd_15 : decode cX7_odd 15 = .ok (.istore_n 2, 1) := dk_61 (dk_at dksX7_odd_0 15 rfl rfl)
theorem dX7_odd_16 : decode cX7_odd 16 = .ok (.iload_n 2, 1) := dk_28 (dk_at dksX7_odd_0 16 rfl rfl)
theorem dX7_odd_17 : decode cX7_odd 17 = .ok (.bipush 24, 2) := dk_16 24 (dk_at dksX7_odd_0 17 rfl rfl)
theorem dX7_odd_19 : decode cX7_odd 19 = .ok (.if_icmp .ge 28, 3) := dk_162 0 28 (dk_at dksX7_odd_0 19 rfl rfl)
theorem dX7_odd_22 : decode cX7_odd 22 = .ok (.aload_n 0, 1) := dk_42 (dk_at dksX7_odd_0 22 rfl rfl)
theorem dX7_odd_23 : decode cX7_odd 23 = .ok (.getfield 124, 3) := dk_180 0 124 (dk_at dksX7_odd_1 0 rfl rfl)
theorem dX7_odd_26 : decode cX7_odd 26 = .ok (.iload_n 2, 1) := dk_28 (dk_at dksX7_odd_1 3 rfl rfl)
theorem dX7_odd_27 : decode cX7_odd 27 = .ok (.iconst 1, 1) := dk_4 (dk_at dksX7_odd_1 4 rfl rfl)
theorem dX7_odd_28 : decode cX7_odd 28 = .ok (.iadd, 1) := dk_96 (dk_at dksX7_odd_1 5 rfl rfl)
theorem dX7_odd_29 : decode cX7_odd 29 = .ok (.iaload, 1) := dk_46 (dk_at dksX7_odd_1 6 rfl rfl)
theorem dX7_odd_30 : decode cX7_odd 30 = .ok (.aload_n 0, 1) := dk_42 (dk_at dksX7_odd_1 7 rfl rfl)
theorem dX7_odd_31 : decode cX7_odd 31 = .ok (.getfield 124, 3) := dk_180 0 124 (dk_at dksX7_odd_1 8 rfl rfl)
theorem dX7_odd_34 : decode cX7_odd 34 = .ok (.iload_n 2, 1) := dk_28 (dk_at dksX7_odd_1 11 rfl rfl)
theorem dX7_odd_35 : decode cX7_odd 35 = .ok (.iaload, 1) := dk_46 (dk_at dksX7_odd_1 12 rfl rfl)
theorem dX7_odd_36 : decode cX7_odd 36 = .ok (.if_icmp .le 5, 3) := dk_164 0 5 (dk_at dksX7_odd_1 13 rfl rfl)
theorem dX7_odd_39 : decode cX7_odd 39 = .ok (.iload_n 2, 1) := dk_28 (dk_at dksX7_odd_1 16 rfl rfl)
theorem dX7_odd_40 : decode cX7_odd 40 = .ok (.ireturn, 1) := dk_172 (dk_at dksX7_odd_1 17 rfl rfl)
theorem dX7_odd_41 : decode cX7_odd 41 = .ok (.iinc 2 1, 3) := dk_132 2 1 (dk_at dksX7_odd_1 18 rfl rfl)
theorem dX7_odd_44 : decode cX7_odd 44 = .ok (.goto (-28), 3) := dk_167 255 228 (dk_at dksX7_odd_1 21 rfl rfl)
theorem dX7_odd_47 : decode cX7_odd 47 = .ok (.iconst (-1), 1) := dk_2 (dk_at dksX7_odd_2 0 rfl rfl)
theorem dX7_odd_48 : decode cX7_odd 48 = .ok (.ireturn, 1) := dk_172 (dk_at dksX7_odd_2 1 rfl rfl)
abbrev cX7_spilt : ByteArray := prog_32_method_124_code
def yX7_spilt : MethodName := ⟨RX7, "spilt", "(I)I"⟩
def dkwX7_spilt_4 : List UInt8 := [167, 255, 221, 132, 2, 1, 167, 255, 172, 2, 172]
abbrev dktX7_spilt_4 : List UInt8 := dkwX7_spilt_4 ++ []
def dkwX7_spilt_3 : List UInt8 := [47, 42, 180, 0, 118, 29, 4, 96, 47, 20, 1, 157, 131, 127, 9, 148, 153, 0, 5, 28, 172, 132, 3, 1]
abbrev dktX7_spilt_3 : List UInt8 := dkwX7_spilt_3 ++ dktX7_spilt_4
def dkwX7_spilt_2 : List UInt8 := [132, 3, 1, 167, 255, 240, 42, 28, 182, 1, 232, 4, 62, 29, 16, 24, 162, 0, 35, 42, 180, 0, 118, 29]
abbrev dktX7_spilt_2 : List UInt8 := dkwX7_spilt_2 ++ dktX7_spilt_3
def dkwX7_spilt_1 : List UInt8 := [184, 0, 142, 46, 162, 0, 75, 3, 62, 29, 16, 25, 162, 0, 16, 42, 27, 28, 29, 182, 1, 229]
abbrev dktX7_spilt_1 : List UInt8 := dkwX7_spilt_1 ++ dktX7_spilt_2
def dkwX7_spilt_0 : List UInt8 := [27, 184, 0, 152, 154, 0, 5, 2, 172, 42, 27, 182, 1, 226, 3, 61, 28, 42, 180, 0, 28, 27, 16, 59]
abbrev dktX7_spilt_0 : List UInt8 := dkwX7_spilt_0 ++ dktX7_spilt_1
theorem dksX7_spilt_0 : cX7_spilt.data.toList.drop 0 = dktX7_spilt_0 := by decide +kernel
theorem dksX7_spilt_1 : cX7_spilt.data.toList.drop 24 = dktX7_spilt_1 := dk_seg dksX7_spilt_0 24 rfl rfl
theorem dksX7_spilt_2 : cX7_spilt.data.toList.drop 46 = dktX7_spilt_2 := dk_seg dksX7_spilt_1 22 rfl rfl
theorem dksX7_spilt_3 : cX7_spilt.data.toList.drop 70 = dktX7_spilt_3 := dk_seg dksX7_spilt_2 24 rfl rfl
theorem dksX7_spilt_4 : cX7_spilt.data.toList.drop 94 = dktX7_spilt_4 := dk_seg dksX7_spilt_3 24 rfl rfl
theorem dX7_spilt_0 : decode cX7_spilt 0 = .ok (.iload_n 1, 1) := dk_27 (dk_at dksX7_spilt_0 0 rfl rfl)
theorem dX7_spilt_1 : decode cX7_spilt 1 = .ok (.invokestatic 152, 3) := dk_184 0 152 (dk_at dksX7_spilt_0 1 rfl rfl)
theorem dX7_spilt_4 : decode cX7_spilt 4 = .ok (.ifCond .ne 5, 3) := dk_154 0 5 (dk_at dksX7_spilt_0 4 rfl rfl)
theorem dX7_spilt_7 : decode cX7_spilt 7 = .ok (.iconst (-1), 1) := dk_2 (dk_at dksX7_spilt_0 7 rfl rfl)
theorem dX7_spilt_8 : decode cX7_spilt 8 = .ok (.ireturn, 1) := dk_172 (dk_at dksX7_spilt_0 8 rfl rfl)
theorem dX7_spilt_9 : decode cX7_spilt 9 = .ok (.aload_n 0, 1) := dk_42 (dk_at dksX7_spilt_0 9 rfl rfl)
theorem dX7_spilt_10 : decode cX7_spilt 10 = .ok (.iload_n 1, 1) := dk_27 (dk_at dksX7_spilt_0 10 rfl rfl)
theorem dX7_spilt_11 : decode cX7_spilt 11 = .ok (.invokevirtual 482, 3) := dk_182 1 226 (dk_at dksX7_spilt_0 11 rfl rfl)
theorem dX7_spilt_14 : decode cX7_spilt 14 = .ok (.iconst 0, 1) := dk_3 (dk_at dksX7_spilt_0 14 rfl rfl)
theorem dX7_spilt_15 : decode cX7_spilt 15 = .ok (.istore_n 2, 1) := dk_61 (dk_at dksX7_spilt_0 15 rfl rfl)
theorem dX7_spilt_16 : decode cX7_spilt 16 = .ok (.iload_n 2, 1) := dk_28 (dk_at dksX7_spilt_0 16 rfl rfl)
theorem dX7_spilt_17 : decode cX7_spilt 17 = .ok (.aload_n 0, 1) := dk_42 (dk_at dksX7_spilt_0 17 rfl rfl)
theorem dX7_spilt_18 : decode cX7_spilt 18 = .ok (.getfield 28, 3) := dk_180 0 28 (dk_at dksX7_spilt_0 18 rfl rfl)
theorem dX7_spilt_21 : decode cX7_spilt 21 = .ok (.iload_n 1, 1) := dk_27 (dk_at dksX7_spilt_0 21 rfl rfl)
theorem dX7_spilt_22 : decode cX7_spilt 22 = .ok (.bipush 59, 2) := dk_16 59 (dk_at dksX7_spilt_0 22 rfl rfl)
theorem dX7_spilt_24 : decode cX7_spilt 24 = .ok (.invokestatic 142, 3) := dk_184 0 142 (dk_at dksX7_spilt_1 0 rfl rfl)
theorem dX7_spilt_27 : decode cX7_spilt 27 = .ok (.iaload, 1) := dk_46 (dk_at dksX7_spilt_1 3 rfl rfl)
theorem dX7_spilt_28 : decode cX7_spilt 28 = .ok (.if_icmp .ge 75, 3) := dk_162 0 75 (dk_at dksX7_spilt_1 4 rfl rfl)
theorem dX7_spilt_31 : decode cX7_spilt 31 = .ok (.iconst 0, 1) := dk_3 (dk_at dksX7_spilt_1 7 rfl rfl)
theorem dX7_spilt_32 : decode cX7_spilt 32 = .ok (.istore_n 3, 1) := dk_62 (dk_at dksX7_spilt_1 8 rfl rfl)
theorem dX7_spilt_33 : decode cX7_spilt 33 = .ok (.iload_n 3, 1) := dk_29 (dk_at dksX7_spilt_1 9 rfl rfl)
theorem dX7_spilt_34 : decode cX7_spilt 34 = .ok (.bipush 25, 2) := dk_16 25 (dk_at dksX7_spilt_1 10 rfl rfl)
theorem dX7_spilt_36 : decode cX7_spilt 36 = .ok (.if_icmp .ge 16, 3) := dk_162 0 16 (dk_at dksX7_spilt_1 12 rfl rfl)
theorem dX7_spilt_39 : decode cX7_spilt 39 = .ok (.aload_n 0, 1) := dk_42 (dk_at dksX7_spilt_1 15 rfl rfl)
theorem dX7_spilt_40 : decode cX7_spilt 40 = .ok (.iload_n 1, 1) := dk_27 (dk_at dksX7_spilt_1 16 rfl rfl)
theorem dX7_spilt_41 : decode cX7_spilt 41 = .ok (.iload_n 2, 1) := dk_28 (dk_at dksX7_spilt_1 17 rfl rfl)
theorem dX7_spilt_42 : decode cX7_spilt 42 = .ok (.iload_n 3, 1) := dk_29 (dk_at dksX7_spilt_1 18 rfl rfl)
theorem dX7_spilt_43 : decode cX7_spilt 43 = .ok (.invokevirtual 485, 3) := dk_182 1 229 (dk_at dksX7_spilt_1 19 rfl rfl)
theorem dX7_spilt_46 : decode cX7_spilt 46 = .ok (.iinc 3 1, 3) := dk_132 3 1 (dk_at dksX7_spilt_2 0 rfl rfl)
theorem dX7_spilt_49 : decode cX7_spilt 49 = .ok (.goto (-16), 3) := dk_167 255 240 (dk_at dksX7_spilt_2 3 rfl rfl)
theorem dX7_spilt_52 : decode cX7_spilt 52 = .ok (.aload_n 0, 1) := dk_42 (dk_at dksX7_spilt_2 6 rfl rfl)
theorem dX7_spilt_53 : decode cX7_spilt 53 = .ok (.iload_n 2, 1) := dk_28 (dk_at dksX7_spilt_2 7 rfl rfl)
theorem dX7_spilt_54 : decode cX7_spilt 54 = .ok (.invokevirtual 488, 3) := dk_182 1 232 (dk_at dksX7_spilt_2 8 rfl rfl)
theorem dX7_spilt_57 : decode cX7_spilt 57 = .ok (.iconst 1, 1) := dk_4 (dk_at dksX7_spilt_2 11 rfl rfl)
theorem dX7_spilt_58 : decode cX7_spilt 58 = .ok (.istore_n 3, 1) := dk_62 (dk_at dksX7_spilt_2 12 rfl rfl)
theorem dX7_spilt_59 : decode cX7_spilt 59 = .ok (.iload_n 3, 1) := dk_29 (dk_at dksX7_spilt_2 13 rfl rfl)
theorem dX7_spilt_60 : decode cX7_spilt 60 = .ok (.bipush 24, 2) := dk_16 24 (dk_at dksX7_spilt_2 14 rfl rfl)
theorem dX7_spilt_62 : decode cX7_spilt 62 = .ok (.if_icmp .ge 35, 3) := dk_162 0 35 (dk_at dksX7_spilt_2 16 rfl rfl)
theorem dX7_spilt_65 : decode cX7_spilt 65 = .ok (.aload_n 0, 1) := dk_42 (dk_at dksX7_spilt_2 19 rfl rfl)
theorem dX7_spilt_66 : decode cX7_spilt 66 = .ok (.getfield 118, 3) := dk_180 0 118 (dk_at dksX7_spilt_2 20 rfl rfl)
theorem dX7_spilt_69 : decode cX7_spilt 69 = .ok (.iload_n 3, 1) := dk_29 (dk_at dksX7_spilt_2 23 rfl rfl)
theorem dX7_spilt_70 : decode cX7_spilt 70 = .ok (.laload, 1) := dk_47 (dk_at dksX7_spilt_3 0 rfl rfl)
theorem dX7_spilt_71 : decode cX7_spilt 71 = .ok (.aload_n 0, 1) := dk_42 (dk_at dksX7_spilt_3 1 rfl rfl)
theorem dX7_spilt_72 : decode cX7_spilt 72 = .ok (.getfield 118, 3) := dk_180 0 118 (dk_at dksX7_spilt_3 2 rfl rfl)
theorem dX7_spilt_75 : decode cX7_spilt 75 = .ok (.iload_n 3, 1) := dk_29 (dk_at dksX7_spilt_3 5 rfl rfl)
theorem dX7_spilt_76 : decode cX7_spilt 76 = .ok (.iconst 1, 1) := dk_4 (dk_at dksX7_spilt_3 6 rfl rfl)
theorem dX7_spilt_77 : decode cX7_spilt 77 = .ok (.iadd, 1) := dk_96 (dk_at dksX7_spilt_3 7 rfl rfl)
theorem dX7_spilt_78 : decode cX7_spilt 78 = .ok (.laload, 1) := dk_47 (dk_at dksX7_spilt_3 8 rfl rfl)
theorem dX7_spilt_79 : decode cX7_spilt 79 = .ok (.ldc2_w 413, 3) := dk_20 1 157 (dk_at dksX7_spilt_3 9 rfl rfl)
theorem dX7_spilt_82 : decode cX7_spilt 82 = .ok (.lxor, 1) := dk_131 (dk_at dksX7_spilt_3 12 rfl rfl)
theorem dX7_spilt_83 : decode cX7_spilt 83 = .ok (.land, 1) := dk_127 (dk_at dksX7_spilt_3 13 rfl rfl)
theorem dX7_spilt_84 : decode cX7_spilt 84 = .ok (.lconst 0, 1) := dk_9 (dk_at dksX7_spilt_3 14 rfl rfl)
theorem dX7_spilt_85 : decode cX7_spilt 85 = .ok (.lcmp, 1) := dk_148 (dk_at dksX7_spilt_3 15 rfl rfl)
theorem dX7_spilt_86 : decode cX7_spilt 86 = .ok (.ifCond .eq 5, 3) := dk_153 0 5 (dk_at dksX7_spilt_3 16 rfl rfl)
theorem dX7_spilt_89 : decode cX7_spilt 89 = .ok (.iload_n 2, 1) := dk_28 (dk_at dksX7_spilt_3 19 rfl rfl)
theorem dX7_spilt_90 : decode cX7_spilt 90 = .ok (.ireturn, 1) := dk_172 (dk_at dksX7_spilt_3 20 rfl rfl)
theorem dX7_spilt_91 : decode cX7_spilt 91 = .ok (.iinc 3 1, 3) := dk_132 3 1 (dk_at dksX7_spilt_3 21 rfl rfl)
theorem dX7_spilt_94 : decode cX7_spilt 94 = .ok (.goto (-35), 3) := dk_167 255 221 (dk_at dksX7_spilt_4 0 rfl rfl)
theorem dX7_spilt_97 : decode cX7_spilt 97 = .ok (.iinc 2 1, 3) := dk_132 2 1 (dk_at dksX7_spilt_4 3 rfl rfl)
theorem dX7_spilt_100 : decode cX7_spilt 100 = .ok (.goto (-84), 3) := dk_167 255 172 (dk_at dksX7_spilt_4 6 rfl rfl)
theorem dX7_spilt_103 : decode cX7_spilt 103 = .ok (.iconst (-1), 1) := dk_2 (dk_at dksX7_spilt_4 9 rfl rfl)
theorem dX7_spilt_104 : decode cX7_spilt 104 = .ok (.ireturn, 1) := dk_172 (dk_at dksX7_spilt_4 10 rfl rfl)
abbrev cX7_seen : ByteArray := prog_32_method_125_code
def yX7_seen : MethodName := ⟨RX7, "seen", "(II)I"⟩
def dkwX7_seen_4 : List UInt8 := [46, 182, 0, 14, 172]
abbrev dktX7_seen_4 : List UInt8 := dkwX7_seen_4 ++ []
def dkwX7_seen_3 : List UInt8 := [4, 96, 28, 79, 42, 180, 0, 28, 17, 1, 129, 92, 46, 4, 96, 79, 42, 42, 180, 0, 28, 17, 1, 129]
abbrev dktX7_seen_3 : List UInt8 := dkwX7_seen_3 ++ dktX7_seen_4
def dkwX7_seen_2 : List UInt8 := [16, 6, 160, 0, 10, 42, 16, 251, 182, 0, 146, 172, 42, 180, 0, 28, 29, 27, 79, 42, 180, 0, 28, 29]
abbrev dktX7_seen_2 : List UInt8 := dkwX7_seen_2 ++ dktX7_seen_3
def dkwX7_seen_1 : List UInt8 := [17, 1, 114, 5, 42, 180, 0, 28, 17, 1, 129, 46, 104, 96, 62, 42, 180, 0, 28, 17, 1, 129, 46]
abbrev dktX7_seen_1 : List UInt8 := dkwX7_seen_1 ++ dktX7_seen_2
def dkwX7_seen_0 : List UInt8 := [27, 184, 1, 148, 153, 0, 14, 28, 3, 19, 1, 238, 184, 0, 18, 154, 0, 9, 42, 2, 182, 0, 146, 172]
abbrev dktX7_seen_0 : List UInt8 := dkwX7_seen_0 ++ dktX7_seen_1
theorem dksX7_seen_0 : cX7_seen.data.toList.drop 0 = dktX7_seen_0 := by decide +kernel
theorem dksX7_seen_1 : cX7_seen.data.toList.drop 24 = dktX7_seen_1 := dk_seg dksX7_seen_0 24 rfl rfl
theorem dksX7_seen_2 : cX7_seen.data.toList.drop 47 = dktX7_seen_2 := dk_seg dksX7_seen_1 23 rfl rfl
theorem dksX7_seen_3 : cX7_seen.data.toList.drop 71 = dktX7_seen_3 := dk_seg dksX7_seen_2 24 rfl rfl
theorem dksX7_seen_4 : cX7_seen.data.toList.drop 95 = dktX7_seen_4 := dk_seg dksX7_seen_3 24 rfl rfl
theorem dX7_seen_0 : decode cX7_seen 0 = .ok (.iload_n 1, 1) := dk_27 (dk_at dksX7_seen_0 0 rfl rfl)
theorem dX7_seen_1 : decode cX7_seen 1 = .ok (.invokestatic 404, 3) := dk_184 1 148 (dk_at dksX7_seen_0 1 rfl rfl)
theorem dX7_seen_4 : decode cX7_seen 4 = .ok (.ifCond .eq 14, 3) := dk_153 0 14 (dk_at dksX7_seen_0 4 rfl rfl)
theorem dX7_seen_7 : decode cX7_seen 7 = .ok (.iload_n 2, 1) := dk_28 (dk_at dksX7_seen_0 7 rfl rfl)
theorem dX7_seen_8 : decode cX7_seen 8 = .ok (.iconst 0, 1) := dk_3 (dk_at dksX7_seen_0 8 rfl rfl)
theorem dX7_seen_9 : decode cX7_seen 9 = .ok (.ldc_w 494, 3) := dk_19 1 238 (dk_at dksX7_seen_0 9 rfl rfl)
theorem dX7_seen_12 : decode cX7_seen 12 = .ok (.invokestatic 18, 3) := dk_184 0 18 (dk_at dksX7_seen_0 12 rfl rfl)
theorem dX7_seen_15 : decode cX7_seen 15 = .ok (.ifCond .ne 9, 3) := dk_154 0 9 (dk_at dksX7_seen_0 15 rfl rfl)
theorem dX7_seen_18 : decode cX7_seen 18 = .ok (.aload_n 0, 1) := dk_42 (dk_at dksX7_seen_0 18 rfl rfl)
theorem dX7_seen_19 : decode cX7_seen 19 = .ok (.iconst (-1), 1) := dk_2 (dk_at dksX7_seen_0 19 rfl rfl)
theorem dX7_seen_20 : decode cX7_seen 20 = .ok (.invokevirtual 146, 3) := dk_182 0 146 (dk_at dksX7_seen_0 20 rfl rfl)
theorem dX7_seen_23 : decode cX7_seen 23 = .ok (.ireturn, 1) := dk_172 (dk_at dksX7_seen_0 23 rfl rfl)
theorem dX7_seen_24 : decode cX7_seen 24 = .ok (.sipush 370, 3) := dk_17 1 114 (dk_at dksX7_seen_1 0 rfl rfl)
theorem dX7_seen_27 : decode cX7_seen 27 = .ok (.iconst 2, 1) := dk_5 (dk_at dksX7_seen_1 3 rfl rfl)
theorem dX7_seen_28 : decode cX7_seen 28 = .ok (.aload_n 0, 1) := dk_42 (dk_at dksX7_seen_1 4 rfl rfl)
theorem dX7_seen_29 : decode cX7_seen 29 = .ok (.getfield 28, 3) := dk_180 0 28 (dk_at dksX7_seen_1 5 rfl rfl)
theorem dX7_seen_32 : decode cX7_seen 32 = .ok (.sipush 385, 3) := dk_17 1 129 (dk_at dksX7_seen_1 8 rfl rfl)
theorem dX7_seen_35 : decode cX7_seen 35 = .ok (.iaload, 1) := dk_46 (dk_at dksX7_seen_1 11 rfl rfl)
theorem dX7_seen_36 : decode cX7_seen 36 = .ok (.imul, 1) := dk_104 (dk_at dksX7_seen_1 12 rfl rfl)
theorem dX7_seen_37 : decode cX7_seen 37 = .ok (.iadd, 1) := dk_96 (dk_at dksX7_seen_1 13 rfl rfl)
theorem dX7_seen_38 : decode cX7_seen 38 = .ok (.istore_n 3, 1) := dk_62 (dk_at dksX7_seen_1 14 rfl rfl)
theorem dX7_seen_39 : decode cX7_seen 39 = .ok (.aload_n 0, 1) := dk_42 (dk_at dksX7_seen_1 15 rfl rfl)
theorem dX7_seen_40 : decode cX7_seen 40 = .ok (.getfield 28, 3) := dk_180 0 28 (dk_at dksX7_seen_1 16 rfl rfl)
theorem dX7_seen_43 : decode cX7_seen 43 = .ok (.sipush 385, 3) := dk_17 1 129 (dk_at dksX7_seen_1 19 rfl rfl)
theorem dX7_seen_46 : decode cX7_seen 46 = .ok (.iaload, 1) := dk_46 (dk_at dksX7_seen_1 22 rfl rfl)
theorem dX7_seen_47 : decode cX7_seen 47 = .ok (.bipush 6, 2) := dk_16 6 (dk_at dksX7_seen_2 0 rfl rfl)
theorem dX7_seen_49 : decode cX7_seen 49 = .ok (.if_icmp .ne 10, 3) := dk_160 0 10 (dk_at dksX7_seen_2 2 rfl rfl)
theorem dX7_seen_52 : decode cX7_seen 52 = .ok (.aload_n 0, 1) := dk_42 (dk_at dksX7_seen_2 5 rfl rfl)
theorem dX7_seen_53 : decode cX7_seen 53 = .ok (.bipush (-5), 2) := dk_16 251 (dk_at dksX7_seen_2 6 rfl rfl)
theorem dX7_seen_55 : decode cX7_seen 55 = .ok (.invokevirtual 146, 3) := dk_182 0 146 (dk_at dksX7_seen_2 8 rfl rfl)
theorem dX7_seen_58 : decode cX7_seen 58 = .ok (.ireturn, 1) := dk_172 (dk_at dksX7_seen_2 11 rfl rfl)
theorem dX7_seen_59 : decode cX7_seen 59 = .ok (.aload_n 0, 1) := dk_42 (dk_at dksX7_seen_2 12 rfl rfl)
theorem dX7_seen_60 : decode cX7_seen 60 = .ok (.getfield 28, 3) := dk_180 0 28 (dk_at dksX7_seen_2 13 rfl rfl)
theorem dX7_seen_63 : decode cX7_seen 63 = .ok (.iload_n 3, 1) := dk_29 (dk_at dksX7_seen_2 16 rfl rfl)
theorem dX7_seen_64 : decode cX7_seen 64 = .ok (.iload_n 1, 1) := dk_27 (dk_at dksX7_seen_2 17 rfl rfl)
theorem dX7_seen_65 : decode cX7_seen 65 = .ok (.iastore, 1) := dk_79 (dk_at dksX7_seen_2 18 rfl rfl)
theorem dX7_seen_66 : decode cX7_seen 66 = .ok (.aload_n 0, 1) := dk_42 (dk_at dksX7_seen_2 19 rfl rfl)
theorem dX7_seen_67 : decode cX7_seen 67 = .ok (.getfield 28, 3) := dk_180 0 28 (dk_at dksX7_seen_2 20 rfl rfl)
theorem dX7_seen_70 : decode cX7_seen 70 = .ok (.iload_n 3, 1) := dk_29 (dk_at dksX7_seen_2 23 rfl rfl)
theorem dX7_seen_71 : decode cX7_seen 71 = .ok (.iconst 1, 1) := dk_4 (dk_at dksX7_seen_3 0 rfl rfl)
theorem dX7_seen_72 : decode cX7_seen 72 = .ok (.iadd, 1) := dk_96 (dk_at dksX7_seen_3 1 rfl rfl)
theorem dX7_seen_73 : decode cX7_seen 73 = .ok (.iload_n 2, 1) := dk_28 (dk_at dksX7_seen_3 2 rfl rfl)
theorem dX7_seen_74 : decode cX7_seen 74 = .ok (.iastore, 1) := dk_79 (dk_at dksX7_seen_3 3 rfl rfl)
theorem dX7_seen_75 : decode cX7_seen 75 = .ok (.aload_n 0, 1) := dk_42 (dk_at dksX7_seen_3 4 rfl rfl)
theorem dX7_seen_76 : decode cX7_seen 76 = .ok (.getfield 28, 3) := dk_180 0 28 (dk_at dksX7_seen_3 5 rfl rfl)
theorem dX7_seen_79 : decode cX7_seen 79 = .ok (.sipush 385, 3) := dk_17 1 129 (dk_at dksX7_seen_3 8 rfl rfl)
theorem dX7_seen_82 : decode cX7_seen 82 = .ok (.dup2, 1) := dk_92 (dk_at dksX7_seen_3 11 rfl rfl)
theorem dX7_seen_83 : decode cX7_seen 83 = .ok (.iaload, 1) := dk_46 (dk_at dksX7_seen_3 12 rfl rfl)
theorem dX7_seen_84 : decode cX7_seen 84 = .ok (.iconst 1, 1) := dk_4 (dk_at dksX7_seen_3 13 rfl rfl)
theorem dX7_seen_85 : decode cX7_seen 85 = .ok (.iadd, 1) := dk_96 (dk_at dksX7_seen_3 14 rfl rfl)
theorem dX7_seen_86 : decode cX7_seen 86 = .ok (.iastore, 1) := dk_79 (dk_at dksX7_seen_3 15 rfl rfl)
theorem dX7_seen_87 : decode cX7_seen 87 = .ok (.aload_n 0, 1) := dk_42 (dk_at dksX7_seen_3 16 rfl rfl)
theorem dX7_seen_88 : decode cX7_seen 88 = .ok (.aload_n 0, 1) := dk_42 (dk_at dksX7_seen_3 17 rfl rfl)
theorem dX7_seen_89 : decode cX7_seen 89 = .ok (.getfield 28, 3) := dk_180 0 28 (dk_at dksX7_seen_3 18 rfl rfl)
theorem dX7_seen_92 : decode cX7_seen 92 = .ok (.sipush 385, 3) := dk_17 1 129 (dk_at dksX7_seen_3 21 rfl rfl)
theorem dX7_seen_95 : decode cX7_seen 95 = .ok (.iaload, 1) := dk_46 (dk_at dksX7_seen_4 0 rfl rfl)
theorem dX7_seen_96 : decode cX7_seen 96 = .ok (.invokevirtual 14, 3) := dk_182 0 14 (dk_at dksX7_seen_4 1 rfl rfl)
theorem dX7_seen_99 : decode cX7_seen 99 = .ok (.ireturn, 1) := dk_172 (dk_at dksX7_seen_4 4 rfl rfl)
abbrev cX7_forget : ByteArray := prog_32_method_126_code
def yX7_forget : MethodName := ⟨RX7, "forget", "()I"⟩
def dkwX7_forget_0 : List UInt8 := [42, 180, 0, 28, 17, 1, 129, 46, 60, 42, 180, 0, 28, 17, 1, 129, 3, 79, 27, 172]
abbrev dktX7_forget_0 : List UInt8 := dkwX7_forget_0 ++ []
theorem dksX7_forget_0 : cX7_forget.data.toList.drop 0 = dktX7_forget_0 := by decide +kernel
theorem dX7_forget_0 : decode cX7_forget 0 = .ok (.aload_n 0, 1) := dk_42 (dk_at dksX7_forget_0 0 rfl rfl)
theorem dX7_forget_1 : decode cX7_forget 1 = .ok (.getfield 28, 3) := dk_180 0 28 (dk_at dksX7_forget_0 1 rfl rfl)
theorem dX7_forget_4 : decode cX7_forget 4 = .ok (.sipush 385, 3) := dk_17 1 129 (dk_at dksX7_forget_0 4 rfl rfl)
theorem dX7_forget_7 : decode cX7_forget 7 = .ok (.iaload, 1) := dk_46 (dk_at dksX7_forget_0 7 rfl rfl)
theorem dX7_forget_8 : decode cX7_forget 8 = .ok (.istore_n 1, 1) := dk_60 (dk_at dksX7_forget_0 8 rfl rfl)
theorem dX7_forget_9 : decode cX7_forget 9 = .ok (.aload_n 0, 1) := dk_42 (dk_at dksX7_forget_0 9 rfl rfl)
theorem dX7_forget_10 : decode cX7_forget 10 = .ok (.getfield 28, 3) := dk_180 0 28 (dk_at dksX7_forget_0 10 rfl rfl)
theorem dX7_forget_13 : decode cX7_forget 13 = .ok (.sipush 385, 3) := dk_17 1 129 (dk_at dksX7_forget_0 13 rfl rfl)
theorem dX7_forget_16 : decode cX7_forget 16 = .ok (.iconst 0, 1) := dk_3 (dk_at dksX7_forget_0 16 rfl rfl)
theorem dX7_forget_17 : decode cX7_forget 17 = .ok (.iastore, 1) := dk_79 (dk_at dksX7_forget_0 17 rfl rfl)
theorem dX7_forget_18 : decode cX7_forget 18 = .ok (.iload_n 1, 1) := dk_27 (dk_at dksX7_forget_0 18 rfl rfl)
theorem dX7_forget_19 : decode cX7_forget 19 = .ok (.ireturn, 1) := dk_172 (dk_at dksX7_forget_0 19 rfl rfl)
abbrev cX7_canBe : ByteArray := prog_32_method_128_code
def yX7_canBe : MethodName := ⟨RX7, "canBe", "()I"⟩
def dkwX7_canBe_1 : List UInt8 := [28, 120, 167, 0, 4, 3, 128, 60, 132, 2, 1, 167, 255, 225, 27, 172]
abbrev dktX7_canBe_1 : List UInt8 := dkwX7_canBe_1 ++ []
def dkwX7_canBe_0 : List UInt8 := [3, 60, 3, 61, 28, 7, 162, 0, 32, 42, 28, 182, 1, 151, 27, 42, 28, 182, 1, 239, 153, 0, 9, 4]
abbrev dktX7_canBe_0 : List UInt8 := dkwX7_canBe_0 ++ dktX7_canBe_1
theorem dksX7_canBe_0 : cX7_canBe.data.toList.drop 0 = dktX7_canBe_0 := by decide +kernel
theorem dksX7_canBe_1 : cX7_canBe.data.toList.drop 24 = dktX7_canBe_1 := dk_seg dksX7_canBe_0 24 rfl rfl
theorem dX7_canBe_0 : decode cX7_canBe 0 = .ok (.iconst 0, 1) := dk_3 (dk_at dksX7_canBe_0 0 rfl rfl)
theorem dX7_canBe_1 : decode cX7_canBe 1 = .ok (.istore_n 1, 1) := dk_60 (dk_at dksX7_canBe_0 1 rfl rfl)
theorem dX7_canBe_2 : decode cX7_canBe 2 = .ok (.iconst 0, 1) := dk_3 (dk_at dksX7_canBe_0 2 rfl rfl)
theorem dX7_canBe_3 : decode cX7_canBe 3 = .ok (.istore_n 2, 1) := dk_61 (dk_at dksX7_canBe_0 3 rfl rfl)
theorem dX7_canBe_4 : decode cX7_canBe 4 = .ok (.iload_n 2, 1) := dk_28 (dk_at dksX7_canBe_0 4 rfl rfl)
theorem dX7_canBe_5 : decode cX7_canBe 5 = .ok (.iconst 4, 1) := dk_7 (dk_at dksX7_canBe_0 5 rfl rfl)
theorem dX7_canBe_6 : decode cX7_canBe 6 = .ok (.if_icmp .ge 32, 3) := dk_162 0 32 (dk_at dksX7_canBe_0 6 rfl rfl)
theorem dX7_canBe_9 : decode cX7_canBe 9 = .ok (.aload_n 0, 1) := dk_42 (dk_at dksX7_canBe_0 9 rfl rfl)
theorem dX7_canBe_10 : decode cX7_canBe 10 = .ok (.iload_n 2, 1) := dk_28 (dk_at dksX7_canBe_0 10 rfl rfl)
theorem dX7_canBe_11 : decode cX7_canBe 11 = .ok (.invokevirtual 407, 3) := dk_182 1 151 (dk_at dksX7_canBe_0 11 rfl rfl)
theorem dX7_canBe_14 : decode cX7_canBe 14 = .ok (.iload_n 1, 1) := dk_27 (dk_at dksX7_canBe_0 14 rfl rfl)
theorem dX7_canBe_15 : decode cX7_canBe 15 = .ok (.aload_n 0, 1) := dk_42 (dk_at dksX7_canBe_0 15 rfl rfl)
theorem dX7_canBe_16 : decode cX7_canBe 16 = .ok (.iload_n 2, 1) := dk_28 (dk_at dksX7_canBe_0 16 rfl rfl)
theorem dX7_canBe_17 : decode cX7_canBe 17 = .ok (.invokevirtual 495, 3) := dk_182 1 239 (dk_at dksX7_canBe_0 17 rfl rfl)
theorem dX7_canBe_20 : decode cX7_canBe 20 = .ok (.ifCond .eq 9, 3) := dk_153 0 9 (dk_at dksX7_canBe_0 20 rfl rfl)
theorem dX7_canBe_23 : decode cX7_canBe 23 = .ok (.iconst 1, 1) := dk_4 (dk_at dksX7_canBe_0 23 rfl rfl)
theorem dX7_canBe_24 : decode cX7_canBe 24 = .ok (.iload_n 2, 1) := dk_28 (dk_at dksX7_canBe_1 0 rfl rfl)
theorem dX7_canBe_25 : decode cX7_canBe 25 = .ok (.ishl, 1) := dk_120 (dk_at dksX7_canBe_1 1 rfl rfl)
theorem dX7_canBe_26 : decode cX7_canBe 26 = .ok (.goto 4, 3) := dk_167 0 4 (dk_at dksX7_canBe_1 2 rfl rfl)
theorem dX7_canBe_29 : decode cX7_canBe 29 = .ok (.iconst 0, 1) := dk_3 (dk_at dksX7_canBe_1 5 rfl rfl)
theorem dX7_canBe_30 : decode cX7_canBe 30 = .ok (.ior, 1) := dk_128 (dk_at dksX7_canBe_1 6 rfl rfl)
theorem dX7_canBe_31 : decode cX7_canBe 31 = .ok (.istore_n 1, 1) := dk_60 (dk_at dksX7_canBe_1 7 rfl rfl)
theorem dX7_canBe_32 : decode cX7_canBe 32 = .ok (.iinc 2 1, 3) := dk_132 2 1 (dk_at dksX7_canBe_1 8 rfl rfl)
theorem dX7_canBe_35 : decode cX7_canBe 35 = .ok (.goto (-31), 3) := dk_167 255 225 (dk_at dksX7_canBe_1 11 rfl rfl)
theorem dX7_canBe_38 : decode cX7_canBe 38 = .ok (.iload_n 1, 1) := dk_27 (dk_at dksX7_canBe_1 14 rfl rfl)
theorem dX7_canBe_39 : decode cX7_canBe 39 = .ok (.ireturn, 1) := dk_172 (dk_at dksX7_canBe_1 15 rfl rfl)
abbrev cX7_isSo : ByteArray := prog_32_method_127_code
def yX7_isSo : MethodName := ⟨RX7, "isSo", "(I)Z"⟩
def dkwX7_isSo_2 : List UInt8 := [96, 4, 96, 46, 160, 0, 7, 4, 167, 0, 4, 3, 61, 132, 3, 1, 167, 255, 197, 28, 172]
abbrev dktX7_isSo_2 : List UInt8 := dkwX7_isSo_2 ++ []
def dkwX7_isSo_1 : List UInt8 := [180, 0, 28, 17, 1, 114, 5, 29, 104, 96, 46, 182, 1, 154, 42, 180, 0, 28, 17, 1, 114, 5, 29, 104]
abbrev dktX7_isSo_1 : List UInt8 := dkwX7_isSo_1 ++ dktX7_isSo_2
def dkwX7_isSo_0 : List UInt8 := [4, 61, 3, 62, 29, 42, 180, 0, 28, 17, 1, 129, 46, 162, 0, 53, 28, 153, 0, 41, 42, 27, 42]
abbrev dktX7_isSo_0 : List UInt8 := dkwX7_isSo_0 ++ dktX7_isSo_1
theorem dksX7_isSo_0 : cX7_isSo.data.toList.drop 0 = dktX7_isSo_0 := by decide +kernel
theorem dksX7_isSo_1 : cX7_isSo.data.toList.drop 23 = dktX7_isSo_1 := dk_seg dksX7_isSo_0 23 rfl rfl
theorem dksX7_isSo_2 : cX7_isSo.data.toList.drop 47 = dktX7_isSo_2 := dk_seg dksX7_isSo_1 24 rfl rfl
theorem dX7_isSo_0 : decode cX7_isSo 0 = .ok (.iconst 1, 1) := dk_4 (dk_at dksX7_isSo_0 0 rfl rfl)
theorem dX7_isSo_1 : decode cX7_isSo 1 = .ok (.istore_n 2, 1) := dk_61 (dk_at dksX7_isSo_0 1 rfl rfl)
theorem dX7_isSo_2 : decode cX7_isSo 2 = .ok (.iconst 0, 1) := dk_3 (dk_at dksX7_isSo_0 2 rfl rfl)
theorem dX7_isSo_3 : decode cX7_isSo 3 = .ok (.istore_n 3, 1) := dk_62 (dk_at dksX7_isSo_0 3 rfl rfl)
theorem dX7_isSo_4 : decode cX7_isSo 4 = .ok (.iload_n 3, 1) := dk_29 (dk_at dksX7_isSo_0 4 rfl rfl)
theorem dX7_isSo_5 : decode cX7_isSo 5 = .ok (.aload_n 0, 1) := dk_42 (dk_at dksX7_isSo_0 5 rfl rfl)
theorem dX7_isSo_6 : decode cX7_isSo 6 = .ok (.getfield 28, 3) := dk_180 0 28 (dk_at dksX7_isSo_0 6 rfl rfl)
theorem dX7_isSo_9 : decode cX7_isSo 9 = .ok (.sipush 385, 3) := dk_17 1 129 (dk_at dksX7_isSo_0 9 rfl rfl)
theorem dX7_isSo_12 : decode cX7_isSo 12 = .ok (.iaload, 1) := dk_46 (dk_at dksX7_isSo_0 12 rfl rfl)
theorem dX7_isSo_13 : decode cX7_isSo 13 = .ok (.if_icmp .ge 53, 3) := dk_162 0 53 (dk_at dksX7_isSo_0 13 rfl rfl)
theorem dX7_isSo_16 : decode cX7_isSo 16 = .ok (.iload_n 2, 1) := dk_28 (dk_at dksX7_isSo_0 16 rfl rfl)
theorem dX7_isSo_17 : decode cX7_isSo 17 = .ok (.ifCond .eq 41, 3) := dk_153 0 41 (dk_at dksX7_isSo_0 17 rfl rfl)
theorem dX7_isSo_20 : decode cX7_isSo 20 = .ok (.aload_n 0, 1) := dk_42 (dk_at dksX7_isSo_0 20 rfl rfl)
theorem dX7_isSo_21 : decode cX7_isSo 21 = .ok (.iload_n 1, 1) := dk_27 (dk_at dksX7_isSo_0 21 rfl rfl)
theorem dX7_isSo_22 : decode cX7_isSo 22 = .ok (.aload_n 0, 1) := dk_42 (dk_at dksX7_isSo_0 22 rfl rfl)
theorem dX7_isSo_23 : decode cX7_isSo 23 = .ok (.getfield 28, 3) := dk_180 0 28 (dk_at dksX7_isSo_1 0 rfl rfl)
theorem dX7_isSo_26 : decode cX7_isSo 26 = .ok (.sipush 370, 3) := dk_17 1 114 (dk_at dksX7_isSo_1 3 rfl rfl)
theorem dX7_isSo_29 : decode cX7_isSo 29 = .ok (.iconst 2, 1) := dk_5 (dk_at dksX7_isSo_1 6 rfl rfl)
theorem dX7_isSo_30 : decode cX7_isSo 30 = .ok (.iload_n 3, 1) := dk_29 (dk_at dksX7_isSo_1 7 rfl rfl)
theorem dX7_isSo_31 : decode cX7_isSo 31 = .ok (.imul, 1) := dk_104 (dk_at dksX7_isSo_1 8 rfl rfl)
theorem dX7_isSo_32 : decode cX7_isSo 32 = .ok (.iadd, 1) := dk_96 (dk_at dksX7_isSo_1 9 rfl rfl)
theorem dX7_isSo_33 : decode cX7_isSo 33 = .ok (.iaload, 1) := dk_46 (dk_at dksX7_isSo_1 10 rfl rfl)
theorem dX7_isSo_34 : decode cX7_isSo 34 = .ok (.invokevirtual 410, 3) := dk_182 1 154 (dk_at dksX7_isSo_1 11 rfl rfl)
theorem dX7_isSo_37 : decode cX7_isSo 37 = .ok (.aload_n 0, 1) := dk_42 (dk_at dksX7_isSo_1 14 rfl rfl)
theorem dX7_isSo_38 : decode cX7_isSo 38 = .ok (.getfield 28, 3) := dk_180 0 28 (dk_at dksX7_isSo_1 15 rfl rfl)
theorem dX7_isSo_41 : decode cX7_isSo 41 = .ok (.sipush 370, 3) := dk_17 1 114 (dk_at dksX7_isSo_1 18 rfl rfl)
theorem dX7_isSo_44 : decode cX7_isSo 44 = .ok (.iconst 2, 1) := dk_5 (dk_at dksX7_isSo_1 21 rfl rfl)
theorem dX7_isSo_45 : decode cX7_isSo 45 = .ok (.iload_n 3, 1) := dk_29 (dk_at dksX7_isSo_1 22 rfl rfl)
theorem dX7_isSo_46 : decode cX7_isSo 46 = .ok (.imul, 1) := dk_104 (dk_at dksX7_isSo_1 23 rfl rfl)
theorem dX7_isSo_47 : decode cX7_isSo 47 = .ok (.iadd, 1) := dk_96 (dk_at dksX7_isSo_2 0 rfl rfl)
theorem dX7_isSo_48 : decode cX7_isSo 48 = .ok (.iconst 1, 1) := dk_4 (dk_at dksX7_isSo_2 1 rfl rfl)
theorem dX7_isSo_49 : decode cX7_isSo 49 = .ok (.iadd, 1) := dk_96 (dk_at dksX7_isSo_2 2 rfl rfl)
theorem dX7_isSo_50 : decode cX7_isSo 50 = .ok (.iaload, 1) := dk_46 (dk_at dksX7_isSo_2 3 rfl rfl)
theorem dX7_isSo_51 : decode cX7_isSo 51 = .ok (.if_icmp .ne 7, 3) := dk_160 0 7 (dk_at dksX7_isSo_2 4 rfl rfl)
theorem dX7_isSo_54 : decode cX7_isSo 54 = .ok (.iconst 1, 1) := dk_4 (dk_at dksX7_isSo_2 7 rfl rfl)
theorem dX7_isSo_55 : decode cX7_isSo 55 = .ok (.goto 4, 3) := dk_167 0 4 (dk_at dksX7_isSo_2 8 rfl rfl)
theorem dX7_isSo_58 : decode cX7_isSo 58 = .ok (.iconst 0, 1) := dk_3 (dk_at dksX7_isSo_2 11 rfl rfl)
theorem dX7_isSo_59 : decode cX7_isSo 59 = .ok (.istore_n 2, 1) := dk_61 (dk_at dksX7_isSo_2 12 rfl rfl)
theorem dX7_isSo_60 : decode cX7_isSo 60 = .ok (.iinc 3 1, 3) := dk_132 3 1 (dk_at dksX7_isSo_2 13 rfl rfl)
theorem dX7_isSo_63 : decode cX7_isSo 63 = .ok (.goto (-59), 3) := dk_167 255 197 (dk_at dksX7_isSo_2 16 rfl rfl)
theorem dX7_isSo_66 : decode cX7_isSo 66 = .ok (.iload_n 2, 1) := dk_28 (dk_at dksX7_isSo_2 19 rfl rfl)
theorem dX7_isSo_67 : decode cX7_isSo 67 = .ok (.ireturn, 1) := dk_172 (dk_at dksX7_isSo_2 20 rfl rfl)
abbrev cX7_ask : ByteArray := prog_32_method_130_code
def yX7_ask : MethodName := ⟨RX7, "ask", "(I)I"⟩
def dkwX7_ask_3 : List UInt8 := [159, 0, 7, 27, 154, 0, 7, 29, 167, 0, 5, 21, 4, 172]
abbrev dktX7_ask_3 : List UInt8 := dkwX7_ask_3 ++ []
def dkwX7_ask_2 : List UInt8 := [21, 4, 161, 0, 6, 167, 0, 10, 21, 6, 54, 4, 21, 5, 62, 132, 5, 1, 167, 255, 216, 29, 2]
abbrev dktX7_ask_2 : List UInt8 := dkwX7_ask_2 ++ dktX7_ask_3
def dkwX7_ask_1 : List UInt8 := [54, 5, 21, 5, 16, 25, 162, 0, 39, 28, 153, 0, 35, 42, 28, 21, 5, 182, 1, 245, 54, 6, 21, 6]
abbrev dktX7_ask_1 : List UInt8 := dkwX7_ask_1 ++ dktX7_ask_2
def dkwX7_ask_0 : List UInt8 := [27, 3, 4, 184, 0, 18, 154, 0, 5, 2, 172, 42, 182, 1, 242, 61, 2, 62, 19, 1, 199, 54, 4, 3]
abbrev dktX7_ask_0 : List UInt8 := dkwX7_ask_0 ++ dktX7_ask_1
theorem dksX7_ask_0 : cX7_ask.data.toList.drop 0 = dktX7_ask_0 := by decide +kernel
theorem dksX7_ask_1 : cX7_ask.data.toList.drop 24 = dktX7_ask_1 := dk_seg dksX7_ask_0 24 rfl rfl
theorem dksX7_ask_2 : cX7_ask.data.toList.drop 48 = dktX7_ask_2 := dk_seg dksX7_ask_1 24 rfl rfl
theorem dksX7_ask_3 : cX7_ask.data.toList.drop 71 = dktX7_ask_3 := dk_seg dksX7_ask_2 23 rfl rfl
theorem dX7_ask_0 : decode cX7_ask 0 = .ok (.iload_n 1, 1) := dk_27 (dk_at dksX7_ask_0 0 rfl rfl)
theorem dX7_ask_1 : decode cX7_ask 1 = .ok (.iconst 0, 1) := dk_3 (dk_at dksX7_ask_0 1 rfl rfl)
theorem dX7_ask_2 : decode cX7_ask 2 = .ok (.iconst 1, 1) := dk_4 (dk_at dksX7_ask_0 2 rfl rfl)
theorem dX7_ask_3 : decode cX7_ask 3 = .ok (.invokestatic 18, 3) := dk_184 0 18 (dk_at dksX7_ask_0 3 rfl rfl)
theorem dX7_ask_6 : decode cX7_ask 6 = .ok (.ifCond .ne 5, 3) := dk_154 0 5 (dk_at dksX7_ask_0 6 rfl rfl)
theorem dX7_ask_9 : decode cX7_ask 9 = .ok (.iconst (-1), 1) := dk_2 (dk_at dksX7_ask_0 9 rfl rfl)
theorem dX7_ask_10 : decode cX7_ask 10 = .ok (.ireturn, 1) := dk_172 (dk_at dksX7_ask_0 10 rfl rfl)
theorem dX7_ask_11 : decode cX7_ask 11 = .ok (.aload_n 0, 1) := dk_42 (dk_at dksX7_ask_0 11 rfl rfl)
theorem dX7_ask_12 : decode cX7_ask 12 = .ok (.invokevirtual 498, 3) := dk_182 1 242 (dk_at dksX7_ask_0 12 rfl rfl)
theorem dX7_ask_15 : decode cX7_ask 15 = .ok (.istore_n 2, 1) := dk_61 (dk_at dksX7_ask_0 15 rfl rfl)
theorem dX7_ask_16 : decode cX7_ask 16 = .ok (.iconst (-1), 1) := dk_2 (dk_at dksX7_ask_0 16 rfl rfl)
theorem dX7_ask_17 : decode cX7_ask 17 = .ok (.istore_n 3, 1) := dk_62 (dk_at dksX7_ask_0 17 rfl rfl)
theorem dX7_ask_18 : decode cX7_ask 18 = .ok (.ldc_w 455, 3) := dk_19 1 199 (dk_at dksX7_ask_0 18 rfl rfl)
theorem dX7_ask_21 : decode cX7_ask 21 = .ok (.istore 4, 2) := dk_54 4 (dk_at dksX7_ask_0 21 rfl rfl)
theorem dX7_ask_23 : decode cX7_ask 23 = .ok (.iconst 0, 1) := dk_3 (dk_at dksX7_ask_0 23 rfl rfl)
theorem dX7_ask_24 : decode cX7_ask 24 = .ok (.istore 5, 2) := dk_54 5 (dk_at dksX7_ask_1 0 rfl rfl)
theorem dX7_ask_26 : decode cX7_ask 26 = .ok (.iload 5, 2) := dk_21 5 (dk_at dksX7_ask_1 2 rfl rfl)
theorem dX7_ask_28 : decode cX7_ask 28 = .ok (.bipush 25, 2) := dk_16 25 (dk_at dksX7_ask_1 4 rfl rfl)
theorem dX7_ask_30 : decode cX7_ask 30 = .ok (.if_icmp .ge 39, 3) := dk_162 0 39 (dk_at dksX7_ask_1 6 rfl rfl)
theorem dX7_ask_33 : decode cX7_ask 33 = .ok (.iload_n 2, 1) := dk_28 (dk_at dksX7_ask_1 9 rfl rfl)
theorem dX7_ask_34 : decode cX7_ask 34 = .ok (.ifCond .eq 35, 3) := dk_153 0 35 (dk_at dksX7_ask_1 10 rfl rfl)
theorem dX7_ask_37 : decode cX7_ask 37 = .ok (.aload_n 0, 1) := dk_42 (dk_at dksX7_ask_1 13 rfl rfl)
theorem dX7_ask_38 : decode cX7_ask 38 = .ok (.iload_n 2, 1) := dk_28 (dk_at dksX7_ask_1 14 rfl rfl)
theorem dX7_ask_39 : decode cX7_ask 39 = .ok (.iload 5, 2) := dk_21 5 (dk_at dksX7_ask_1 15 rfl rfl)
theorem dX7_ask_41 : decode cX7_ask 41 = .ok (.invokevirtual 501, 3) := dk_182 1 245 (dk_at dksX7_ask_1 17 rfl rfl)
theorem dX7_ask_44 : decode cX7_ask 44 = .ok (.istore 6, 2) := dk_54 6 (dk_at dksX7_ask_1 20 rfl rfl)
theorem dX7_ask_46 : decode cX7_ask 46 = .ok (.iload 6, 2) := dk_21 6 (dk_at dksX7_ask_1 22 rfl rfl)
theorem dX7_ask_48 : decode cX7_ask 48 = .ok (.iload 4, 2) := dk_21 4 (dk_at dksX7_ask_2 0 rfl rfl)
theorem dX7_ask_50 : decode cX7_ask 50 = .ok (.if_icmp .lt 6, 3) := dk_161 0 6 (dk_at dksX7_ask_2 2 rfl rfl)
theorem dX7_ask_53 : decode cX7_ask 53 = .ok (.goto 10, 3) := dk_167 0 10 (dk_at dksX7_ask_2 5 rfl rfl)
theorem dX7_ask_56 : decode cX7_ask 56 = .ok (.iload 6, 2) := dk_21 6 (dk_at dksX7_ask_2 8 rfl rfl)
theorem dX7_ask_58 : decode cX7_ask 58 = .ok (.istore 4, 2) := dk_54 4 (dk_at dksX7_ask_2 10 rfl rfl)
theorem dX7_ask_60 : decode cX7_ask 60 = .ok (.iload 5, 2) := dk_21 5 (dk_at dksX7_ask_2 12 rfl rfl)
theorem dX7_ask_62 : decode cX7_ask 62 = .ok (.istore_n 3, 1) := dk_62 (dk_at dksX7_ask_2 14 rfl rfl)
theorem dX7_ask_63 : decode cX7_ask 63 = .ok (.iinc 5 1, 3) := dk_132 5 1 (dk_at dksX7_ask_2 15 rfl rfl)
theorem dX7_ask_66 : decode cX7_ask 66 = .ok (.goto (-40), 3) := dk_167 255 216 (dk_at dksX7_ask_2 18 rfl rfl)
theorem dX7_ask_69 : decode cX7_ask 69 = .ok (.iload_n 3, 1) := dk_29 (dk_at dksX7_ask_2 21 rfl rfl)
theorem dX7_ask_70 : decode cX7_ask 70 = .ok (.iconst (-1), 1) := dk_2 (dk_at dksX7_ask_2 22 rfl rfl)
theorem dX7_ask_71 : decode cX7_ask 71 = .ok (.if_icmp .eq 7, 3) := dk_159 0 7 (dk_at dksX7_ask_3 0 rfl rfl)
theorem dX7_ask_74 : decode cX7_ask 74 = .ok (.iload_n 1, 1) := dk_27 (dk_at dksX7_ask_3 3 rfl rfl)
theorem dX7_ask_75 : decode cX7_ask 75 = .ok (.ifCond .ne 7, 3) := dk_154 0 7 (dk_at dksX7_ask_3 4 rfl rfl)
theorem dX7_ask_78 : decode cX7_ask 78 = .ok (.iload_n 3, 1) := dk_29 (dk_at dksX7_ask_3 7 rfl rfl)
theorem dX7_ask_79 : decode cX7_ask 79 = .ok (.goto 5, 3) := dk_167 0 5 (dk_at dksX7_ask_3 8 rfl rfl)
theorem dX7_ask_82 : decode cX7_ask 82 = .ok (.iload 4, 2) := dk_21 4 (dk_at dksX7_ask_3 11 rfl rfl)
theorem dX7_ask_84 : decode cX7_ask 84 = .ok (.ireturn, 1) := dk_172 (dk_at dksX7_ask_3 13 rfl rfl)
abbrev cX7_mostAlike : ByteArray := prog_32_method_129_code
def yX7_mostAlike : MethodName := ⟨RX7, "mostAlike", "(II)I"⟩
def dkwX7_mostAlike_4 : List UInt8 := [172]
abbrev dktX7_mostAlike_4 : List UInt8 := dkwX7_mostAlike_4 ++ []
def dkwX7_mostAlike_3 : List UInt8 := [184, 1, 212, 153, 0, 12, 29, 21, 5, 184, 1, 118, 167, 0, 4, 29, 62, 132, 4, 1, 167, 255, 171, 29]
abbrev dktX7_mostAlike_3 : List UInt8 := dkwX7_mostAlike_3 ++ dktX7_mostAlike_4
def dkwX7_mostAlike_2 : List UInt8 := [182, 1, 154, 160, 0, 7, 4, 167, 0, 4, 3, 96, 54, 5, 132, 6, 1, 167, 255, 210, 27, 133, 21, 4]
abbrev dktX7_mostAlike_2 : List UInt8 := dkwX7_mostAlike_2 ++ dktX7_mostAlike_3
def dkwX7_mostAlike_1 : List UInt8 := [21, 5, 27, 133, 21, 6, 184, 1, 212, 153, 0, 24, 42, 21, 4, 28, 182, 1, 154, 42, 21, 6, 28]
abbrev dktX7_mostAlike_1 : List UInt8 := dkwX7_mostAlike_1 ++ dktX7_mostAlike_2
def dkwX7_mostAlike_0 : List UInt8 := [3, 62, 3, 54, 4, 21, 4, 7, 162, 0, 85, 3, 54, 5, 3, 54, 6, 21, 6, 7, 162, 0, 46]
abbrev dktX7_mostAlike_0 : List UInt8 := dkwX7_mostAlike_0 ++ dktX7_mostAlike_1
theorem dksX7_mostAlike_0 : cX7_mostAlike.data.toList.drop 0 = dktX7_mostAlike_0 := by decide +kernel
theorem dksX7_mostAlike_1 : cX7_mostAlike.data.toList.drop 23 = dktX7_mostAlike_1 := dk_seg dksX7_mostAlike_0 23 rfl rfl
theorem dksX7_mostAlike_2 : cX7_mostAlike.data.toList.drop 46 = dktX7_mostAlike_2 := dk_seg dksX7_mostAlike_1 23 rfl rfl
theorem dksX7_mostAlike_3 : cX7_mostAlike.data.toList.drop 70 = dktX7_mostAlike_3 := dk_seg dksX7_mostAlike_2 24 rfl rfl
theorem dksX7_mostAlike_4 : cX7_mostAlike.data.toList.drop 94 = dktX7_mostAlike_4 := dk_seg dksX7_mostAlike_3 24 rfl rfl
theorem dX7_mostAlike_0 : decode cX7_mostAlike 0 = .ok (.iconst 0, 1) := dk_3 (dk_at dksX7_mostAlike_0 0 rfl rfl)
theorem dX7_mostAlike_1 : decode cX7_mostAlike 1 = .ok (.istore_n 3, 1) := dk_62 (dk_at dksX7_mostAlike_0 1 rfl rfl)
theorem dX7_mostAlike_2 : decode cX7_mostAlike 2 = .ok (.iconst 0, 1) := dk_3 (dk_at dksX7_mostAlike_0 2 rfl rfl)
theorem dX7_mostAlike_3 : decode cX7_mostAlike 3 = .ok (.istore 4, 2) := dk_54 4 (dk_at dksX7_mostAlike_0 3 rfl rfl)
theorem dX7_mostAlike_5 : decode cX7_mostAlike 5 = .ok (.iload 4, 2) := dk_21 4 (dk_at dksX7_mostAlike_0 5 rfl rfl)
theorem dX7_mostAlike_7 : decode cX7_mostAlike 7 = .ok (.iconst 4, 1) := dk_7 (dk_at dksX7_mostAlike_0 7 rfl rfl)
theorem dX7_mostAlike_8 : decode cX7_mostAlike 8 = .ok (.if_icmp .ge 85, 3) := dk_162 0 85 (dk_at dksX7_mostAlike_0 8 rfl rfl)
theorem dX7_mostAlike_11 : decode cX7_mostAlike 11 = .ok (.iconst 0, 1) := dk_3 (dk_at dksX7_mostAlike_0 11 rfl rfl)
theorem dX7_mostAlike_12 : decode cX7_mostAlike 12 = .ok (.istore 5, 2) := dk_54 5 (dk_at dksX7_mostAlike_0 12 rfl rfl)
theorem dX7_mostAlike_14 : decode cX7_mostAlike 14 = .ok (.iconst 0, 1) := dk_3 (dk_at dksX7_mostAlike_0 14 rfl rfl)
theorem dX7_mostAlike_15 : decode cX7_mostAlike 15 = .ok (.istore 6, 2) := dk_54 6 (dk_at dksX7_mostAlike_0 15 rfl rfl)
theorem dX7_mostAlike_17 : decode cX7_mostAlike 17 = .ok (.iload 6, 2) := dk_21 6 (dk_at dksX7_mostAlike_0 17 rfl rfl)
theorem dX7_mostAlike_19 : decode cX7_mostAlike 19 = .ok (.iconst 4, 1) := dk_7 (dk_at dksX7_mostAlike_0 19 rfl rfl)
theorem dX7_mostAlike_20 : decode cX7_mostAlike 20 = .ok (.if_icmp .ge 46, 3) := dk_162 0 46 (dk_at dksX7_mostAlike_0 20 rfl rfl)
theorem dX7_mostAlike_23 : decode cX7_mostAlike 23 = .ok (.iload 5, 2) := dk_21 5 (dk_at dksX7_mostAlike_1 0 rfl rfl)
theorem dX7_mostAlike_25 : decode cX7_mostAlike 25 = .ok (.iload_n 1, 1) := dk_27 (dk_at dksX7_mostAlike_1 2 rfl rfl)
theorem dX7_mostAlike_26 : decode cX7_mostAlike 26 = .ok (.i2l, 1) := dk_133 (dk_at dksX7_mostAlike_1 3 rfl rfl)
theorem dX7_mostAlike_27 : decode cX7_mostAlike 27 = .ok (.iload 6, 2) := dk_21 6 (dk_at dksX7_mostAlike_1 4 rfl rfl)
theorem dX7_mostAlike_29 : decode cX7_mostAlike 29 = .ok (.invokestatic 468, 3) := dk_184 1 212 (dk_at dksX7_mostAlike_1 6 rfl rfl)
theorem dX7_mostAlike_32 : decode cX7_mostAlike 32 = .ok (.ifCond .eq 24, 3) := dk_153 0 24 (dk_at dksX7_mostAlike_1 9 rfl rfl)
theorem dX7_mostAlike_35 : decode cX7_mostAlike 35 = .ok (.aload_n 0, 1) := dk_42 (dk_at dksX7_mostAlike_1 12 rfl rfl)
theorem dX7_mostAlike_36 : decode cX7_mostAlike 36 = .ok (.iload 4, 2) := dk_21 4 (dk_at dksX7_mostAlike_1 13 rfl rfl)
theorem dX7_mostAlike_38 : decode cX7_mostAlike 38 = .ok (.iload_n 2, 1) := dk_28 (dk_at dksX7_mostAlike_1 15 rfl rfl)
theorem dX7_mostAlike_39 : decode cX7_mostAlike 39 = .ok (.invokevirtual 410, 3) := dk_182 1 154 (dk_at dksX7_mostAlike_1 16 rfl rfl)
theorem dX7_mostAlike_42 : decode cX7_mostAlike 42 = .ok (.aload_n 0, 1) := dk_42 (dk_at dksX7_mostAlike_1 19 rfl rfl)
theorem dX7_mostAlike_43 : decode cX7_mostAlike 43 = .ok (.iload 6, 2) := dk_21 6 (dk_at dksX7_mostAlike_1 20 rfl rfl)
theorem dX7_mostAlike_45 : decode cX7_mostAlike 45 = .ok (.iload_n 2, 1) := dk_28 (dk_at dksX7_mostAlike_1 22 rfl rfl)
theorem dX7_mostAlike_46 : decode cX7_mostAlike 46 = .ok (.invokevirtual 410, 3) := dk_182 1 154 (dk_at dksX7_mostAlike_2 0 rfl rfl)
theorem dX7_mostAlike_49 : decode cX7_mostAlike 49 = .ok (.if_icmp .ne 7, 3) := dk_160 0 7 (dk_at dksX7_mostAlike_2 3 rfl rfl)
theorem dX7_mostAlike_52 : decode cX7_mostAlike 52 = .ok (.iconst 1, 1) := dk_4 (dk_at dksX7_mostAlike_2 6 rfl rfl)
theorem dX7_mostAlike_53 : decode cX7_mostAlike 53 = .ok (.goto 4, 3) := dk_167 0 4 (dk_at dksX7_mostAlike_2 7 rfl rfl)
theorem dX7_mostAlike_56 : decode cX7_mostAlike 56 = .ok (.iconst 0, 1) := dk_3 (dk_at dksX7_mostAlike_2 10 rfl rfl)
theorem dX7_mostAlike_57 : decode cX7_mostAlike 57 = .ok (.iadd, 1) := dk_96 (dk_at dksX7_mostAlike_2 11 rfl rfl)
theorem dX7_mostAlike_58 : decode cX7_mostAlike 58 = .ok (.istore 5, 2) := dk_54 5 (dk_at dksX7_mostAlike_2 12 rfl rfl)
theorem dX7_mostAlike_60 : decode cX7_mostAlike 60 = .ok (.iinc 6 1, 3) := dk_132 6 1 (dk_at dksX7_mostAlike_2 14 rfl rfl)
theorem dX7_mostAlike_63 : decode cX7_mostAlike 63 = .ok (.goto (-46), 3) := dk_167 255 210 (dk_at dksX7_mostAlike_2 17 rfl rfl)
theorem dX7_mostAlike_66 : decode cX7_mostAlike 66 = .ok (.iload_n 1, 1) := dk_27 (dk_at dksX7_mostAlike_2 20 rfl rfl)
theorem dX7_mostAlike_67 : decode cX7_mostAlike 67 = .ok (.i2l, 1) := dk_133 (dk_at dksX7_mostAlike_2 21 rfl rfl)
theorem dX7_mostAlike_68 : decode cX7_mostAlike 68 = .ok (.iload 4, 2) := dk_21 4 (dk_at dksX7_mostAlike_2 22 rfl rfl)
theorem dX7_mostAlike_70 : decode cX7_mostAlike 70 = .ok (.invokestatic 468, 3) := dk_184 1 212 (dk_at dksX7_mostAlike_3 0 rfl rfl)
theorem dX7_mostAlike_73 : decode cX7_mostAlike 73 = .ok (.ifCond .eq 12, 3) := dk_153 0 12 (dk_at dksX7_mostAlike_3 3 rfl rfl)
theorem dX7_mostAlike_76 : decode cX7_mostAlike 76 = .ok (.iload_n 3, 1) := dk_29 (dk_at dksX7_mostAlike_3 6 rfl rfl)
theorem dX7_mostAlike_77 : decode cX7_mostAlike 77 = .ok (.iload 5, 2) := dk_21 5 (dk_at dksX7_mostAlike_3 7 rfl rfl)
theorem dX7_mostAlike_79 : decode cX7_mostAlike 79 = .ok (.invokestatic 374, 3) := dk_184 1 118 (dk_at dksX7_mostAlike_3 9 rfl rfl)
theorem dX7_mostAlike_82 : decode cX7_mostAlike 82 = .ok (.goto 4, 3) := dk_167 0 4 (dk_at dksX7_mostAlike_3 12 rfl rfl)
theorem dX7_mostAlike_85 : decode cX7_mostAlike 85 = .ok (.iload_n 3, 1) := dk_29 (dk_at dksX7_mostAlike_3 15 rfl rfl)
theorem dX7_mostAlike_86 : decode cX7_mostAlike 86 = .ok (.istore_n 3, 1) := dk_62 (dk_at dksX7_mostAlike_3 16 rfl rfl)
theorem dX7_mostAlike_87 : decode cX7_mostAlike 87 = .ok (.iinc 4 1, 3) := dk_132 4 1 (dk_at dksX7_mostAlike_3 17 rfl rfl)
theorem dX7_mostAlike_90 : decode cX7_mostAlike 90 = .ok (.goto (-85), 3) := dk_167 255 171 (dk_at dksX7_mostAlike_3 20 rfl rfl)
theorem dX7_mostAlike_93 : decode cX7_mostAlike 93 = .ok (.iload_n 3, 1) := dk_29 (dk_at dksX7_mostAlike_3 23 rfl rfl)
theorem dX7_mostAlike_94 : decode cX7_mostAlike 94 = .ok (.ireturn, 1) := dk_172 (dk_at dksX7_mostAlike_4 0 rfl rfl)
abbrev cX7_few : ByteArray := prog_32_method_131_code
def yX7_few : MethodName := ⟨RX7, "few", "(II)J"⟩
def dkwX7_few_7 : List UInt8 := [47, 97, 66, 132, 5, 1, 167, 255, 237, 33, 173]
abbrev dktX7_few_7 : List UInt8 := dkwX7_few_7 ++ []
def dkwX7_few_6 : List UInt8 := [132, 3, 1, 167, 255, 168, 9, 66, 3, 54, 5, 21, 5, 27, 162, 0, 19, 33, 42, 180, 0, 127, 21, 5]
abbrev dktX7_few_6 : List UInt8 := dkwX7_few_6 ++ dktX7_few_7
def dkwX7_few_5 : List UInt8 := [42, 180, 0, 28, 17, 1, 126, 46, 100, 133, 105, 20, 1, 250, 109, 80, 132, 4, 255, 167, 255, 184]
abbrev dktX7_few_5 : List UInt8 := dkwX7_few_5 ++ dktX7_few_6
def dkwX7_few_4 : List UInt8 := [46, 133, 105, 20, 1, 250, 109, 97, 80, 42, 180, 0, 127, 21, 4, 42, 180, 0, 127, 21, 4, 47, 16, 10]
abbrev dktX7_few_4 : List UInt8 := dkwX7_few_4 ++ dktX7_few_5
def dkwX7_few_3 : List UInt8 := [42, 180, 0, 127, 21, 4, 4, 96, 92, 47, 42, 180, 0, 127, 21, 4, 47, 42, 180, 0, 28, 17, 1, 126]
abbrev dktX7_few_3 : List UInt8 := dkwX7_few_3 ++ dktX7_few_4
def dkwX7_few_2 : List UInt8 := [80, 132, 3, 1, 167, 255, 230, 3, 62, 29, 28, 162, 0, 89, 27, 4, 100, 54, 4, 21, 4, 155, 0, 73]
abbrev dktX7_few_2 : List UInt8 := dkwX7_few_2 ++ dktX7_few_3
def dkwX7_few_1 : List UInt8 := [3, 62, 29, 16, 20, 163, 0, 26, 42, 180, 0, 127, 29, 29, 154, 0, 9, 20, 1, 248, 167, 0, 4, 9]
abbrev dktX7_few_1 : List UInt8 := dkwX7_few_1 ++ dktX7_few_2
def dkwX7_few_0 : List UInt8 := [27, 4, 16, 20, 184, 0, 18, 153, 0, 13, 28, 3, 16, 99, 184, 0, 18, 154, 0, 7, 20, 1, 157, 173]
abbrev dktX7_few_0 : List UInt8 := dkwX7_few_0 ++ dktX7_few_1
theorem dksX7_few_0 : cX7_few.data.toList.drop 0 = dktX7_few_0 := by decide +kernel
theorem dksX7_few_1 : cX7_few.data.toList.drop 24 = dktX7_few_1 := dk_seg dksX7_few_0 24 rfl rfl
theorem dksX7_few_2 : cX7_few.data.toList.drop 48 = dktX7_few_2 := dk_seg dksX7_few_1 24 rfl rfl
theorem dksX7_few_3 : cX7_few.data.toList.drop 72 = dktX7_few_3 := dk_seg dksX7_few_2 24 rfl rfl
theorem dksX7_few_4 : cX7_few.data.toList.drop 96 = dktX7_few_4 := dk_seg dksX7_few_3 24 rfl rfl
theorem dksX7_few_5 : cX7_few.data.toList.drop 120 = dktX7_few_5 := dk_seg dksX7_few_4 24 rfl rfl
theorem dksX7_few_6 : cX7_few.data.toList.drop 142 = dktX7_few_6 := dk_seg dksX7_few_5 22 rfl rfl
theorem dksX7_few_7 : cX7_few.data.toList.drop 166 = dktX7_few_7 := dk_seg dksX7_few_6 24 rfl rfl
theorem dX7_few_0 : decode cX7_few 0 = .ok (.iload_n 1, 1) := dk_27 (dk_at dksX7_few_0 0 rfl rfl)
theorem dX7_few_1 : decode cX7_few 1 = .ok (.iconst 1, 1) := dk_4 (dk_at dksX7_few_0 1 rfl rfl)
theorem dX7_few_2 : decode cX7_few 2 = .ok (.bipush 20, 2) := dk_16 20 (dk_at dksX7_few_0 2 rfl rfl)
theorem dX7_few_4 : decode cX7_few 4 = .ok (.invokestatic 18, 3) := dk_184 0 18 (dk_at dksX7_few_0 4 rfl rfl)
theorem dX7_few_7 : decode cX7_few 7 = .ok (.ifCond .eq 13, 3) := dk_153 0 13 (dk_at dksX7_few_0 7 rfl rfl)
theorem dX7_few_10 : decode cX7_few 10 = .ok (.iload_n 2, 1) := dk_28 (dk_at dksX7_few_0 10 rfl rfl)
theorem dX7_few_11 : decode cX7_few 11 = .ok (.iconst 0, 1) := dk_3 (dk_at dksX7_few_0 11 rfl rfl)
theorem dX7_few_12 : decode cX7_few 12 = .ok (.bipush 99, 2) := dk_16 99 (dk_at dksX7_few_0 12 rfl rfl)
theorem dX7_few_14 : decode cX7_few 14 = .ok (.invokestatic 18, 3) := dk_184 0 18 (dk_at dksX7_few_0 14 rfl rfl)
theorem dX7_few_17 : decode cX7_few 17 = .ok (.ifCond .ne 7, 3) := dk_154 0 7 (dk_at dksX7_few_0 17 rfl rfl)
theorem dX7_few_20 : decode cX7_few 20 = .ok (.ldc2_w 413, 3) := dk_20 1 157 (dk_at dksX7_few_0 20 rfl rfl)
theorem dX7_few_23 : decode cX7_few 23 = .ok (.lreturn, 1) := dk_173 (dk_at dksX7_few_0 23 rfl rfl)
theorem dX7_few_24 : decode cX7_few 24 = .ok (.iconst 0, 1) := dk_3 (dk_at dksX7_few_1 0 rfl rfl)
theorem dX7_few_25 : decode cX7_few 25 = .ok (.istore_n 3, 1) := dk_62 (dk_at dksX7_few_1 1 rfl rfl)
theorem dX7_few_26 : decode cX7_few 26 = .ok (.iload_n 3, 1) := dk_29 (dk_at dksX7_few_1 2 rfl rfl)
theorem dX7_few_27 : decode cX7_few 27 = .ok (.bipush 20, 2) := dk_16 20 (dk_at dksX7_few_1 3 rfl rfl)
theorem dX7_few_29 : decode cX7_few 29 = .ok (.if_icmp .gt 26, 3) := dk_163 0 26 (dk_at dksX7_few_1 5 rfl rfl)
theorem dX7_few_32 : decode cX7_few 32 = .ok (.aload_n 0, 1) := dk_42 (dk_at dksX7_few_1 8 rfl rfl)
theorem dX7_few_33 : decode cX7_few 33 = .ok (.getfield 127, 3) := dk_180 0 127 (dk_at dksX7_few_1 9 rfl rfl)
theorem dX7_few_36 : decode cX7_few 36 = .ok (.iload_n 3, 1) := dk_29 (dk_at dksX7_few_1 12 rfl rfl)
theorem dX7_few_37 : decode cX7_few 37 = .ok (.iload_n 3, 1) := dk_29 (dk_at dksX7_few_1 13 rfl rfl)
theorem dX7_few_38 : decode cX7_few 38 = .ok (.ifCond .ne 9, 3) := dk_154 0 9 (dk_at dksX7_few_1 14 rfl rfl)
theorem dX7_few_41 : decode cX7_few 41 = .ok (.ldc2_w 504, 3) := dk_20 1 248 (dk_at dksX7_few_1 17 rfl rfl)
theorem dX7_few_44 : decode cX7_few 44 = .ok (.goto 4, 3) := dk_167 0 4 (dk_at dksX7_few_1 20 rfl rfl)
theorem dX7_few_47 : decode cX7_few 47 = .ok (.lconst 0, 1) := dk_9 (dk_at dksX7_few_1 23 rfl rfl)
theorem dX7_few_48 : decode cX7_few 48 = .ok (.lastore, 1) := dk_80 (dk_at dksX7_few_2 0 rfl rfl)
theorem dX7_few_49 : decode cX7_few 49 = .ok (.iinc 3 1, 3) := dk_132 3 1 (dk_at dksX7_few_2 1 rfl rfl)
theorem dX7_few_52 : decode cX7_few 52 = .ok (.goto (-26), 3) := dk_167 255 230 (dk_at dksX7_few_2 4 rfl rfl)
theorem dX7_few_55 : decode cX7_few 55 = .ok (.iconst 0, 1) := dk_3 (dk_at dksX7_few_2 7 rfl rfl)
theorem dX7_few_56 : decode cX7_few 56 = .ok (.istore_n 3, 1) := dk_62 (dk_at dksX7_few_2 8 rfl rfl)
theorem dX7_few_57 : decode cX7_few 57 = .ok (.iload_n 3, 1) := dk_29 (dk_at dksX7_few_2 9 rfl rfl)
theorem dX7_few_58 : decode cX7_few 58 = .ok (.iload_n 2, 1) := dk_28 (dk_at dksX7_few_2 10 rfl rfl)
theorem dX7_few_59 : decode cX7_few 59 = .ok (.if_icmp .ge 89, 3) := dk_162 0 89 (dk_at dksX7_few_2 11 rfl rfl)
theorem dX7_few_62 : decode cX7_few 62 = .ok (.iload_n 1, 1) := dk_27 (dk_at dksX7_few_2 14 rfl rfl)
theorem dX7_few_63 : decode cX7_few 63 = .ok (.iconst 1, 1) := dk_4 (dk_at dksX7_few_2 15 rfl rfl)
theorem dX7_few_64 : decode cX7_few 64 = .ok (.isub, 1) := dk_100 (dk_at dksX7_few_2 16 rfl rfl)
theorem dX7_few_65 : decode cX7_few 65 = .ok (.istore 4, 2) := dk_54 4 (dk_at dksX7_few_2 17 rfl rfl)
theorem dX7_few_67 : decode cX7_few 67 = .ok (.iload 4, 2) := dk_21 4 (dk_at dksX7_few_2 19 rfl rfl)
theorem dX7_few_69 : decode cX7_few 69 = .ok (.ifCond .lt 73, 3) := dk_155 0 73 (dk_at dksX7_few_2 21 rfl rfl)
theorem dX7_few_72 : decode cX7_few 72 = .ok (.aload_n 0, 1) := dk_42 (dk_at dksX7_few_3 0 rfl rfl)
theorem dX7_few_73 : decode cX7_few 73 = .ok (.getfield 127, 3) := dk_180 0 127 (dk_at dksX7_few_3 1 rfl rfl)
theorem dX7_few_76 : decode cX7_few 76 = .ok (.iload 4, 2) := dk_21 4 (dk_at dksX7_few_3 4 rfl rfl)
theorem dX7_few_78 : decode cX7_few 78 = .ok (.iconst 1, 1) := dk_4 (dk_at dksX7_few_3 6 rfl rfl)
theorem dX7_few_79 : decode cX7_few 79 = .ok (.iadd, 1) := dk_96 (dk_at dksX7_few_3 7 rfl rfl)
theorem dX7_few_80 : decode cX7_few 80 = .ok (.dup2, 1) := dk_92 (dk_at dksX7_few_3 8 rfl rfl)
theorem dX7_few_81 : decode cX7_few 81 = .ok (.laload, 1) := dk_47 (dk_at dksX7_few_3 9 rfl rfl)
theorem dX7_few_82 : decode cX7_few 82 = .ok (.aload_n 0, 1) := dk_42 (dk_at dksX7_few_3 10 rfl rfl)
theorem dX7_few_83 : decode cX7_few 83 = .ok (.getfield 127, 3) := dk_180 0 127 (dk_at dksX7_few_3 11 rfl rfl)
theorem dX7_few_86 : decode cX7_few 86 = .ok (.iload 4, 2) := dk_21 4 (dk_at dksX7_few_3 14 rfl rfl)
theorem dX7_few_88 : decode cX7_few 88 = .ok (.laload, 1) := dk_47 (dk_at dksX7_few_3 16 rfl rfl)
theorem dX7_few_89 : decode cX7_few 89 = .ok (.aload_n 0, 1) := dk_42 (dk_at dksX7_few_3 17 rfl rfl)
theorem dX7_few_90 : decode cX7_few 90 = .ok (.getfield 28, 3) := dk_180 0 28 (dk_at dksX7_few_3 18 rfl rfl)
theorem dX7_few_93 : decode cX7_few 93 = .ok (.sipush 382, 3) := dk_17 1 126 (dk_at dksX7_few_3 21 rfl rfl)
theorem dX7_few_96 : decode cX7_few 96 = .ok (.iaload, 1) := dk_46 (dk_at dksX7_few_4 0 rfl rfl)
theorem dX7_few_97 : decode cX7_few 97 = .ok (.i2l, 1) := dk_133 (dk_at dksX7_few_4 1 rfl rfl)
theorem dX7_few_98 : decode cX7_few 98 = .ok (.lmul, 1) := dk_105 (dk_at dksX7_few_4 2 rfl rfl)
theorem dX7_few_99 : decode cX7_few 99 = .ok (.ldc2_w 506, 3) := dk_20 1 250 (dk_at dksX7_few_4 3 rfl rfl)
theorem dX7_few_102 : decode cX7_few 102 = .ok (.ldiv, 1) := dk_109 (dk_at dksX7_few_4 6 rfl rfl)
theorem dX7_few_103 : decode cX7_few 103 = .ok (.ladd, 1) := dk_97 (dk_at dksX7_few_4 7 rfl rfl)
theorem dX7_few_104 : decode cX7_few 104 = .ok (.lastore, 1) := dk_80 (dk_at dksX7_few_4 8 rfl rfl)
theorem dX7_few_105 : decode cX7_few 105 = .ok (.aload_n 0, 1) := dk_42 (dk_at dksX7_few_4 9 rfl rfl)
theorem dX7_few_106 : decode cX7_few 106 = .ok (.getfield 127, 3) := dk_180 0 127 (dk_at dksX7_few_4 10 rfl rfl)
theorem dX7_few_109 : decode cX7_few 109 = .ok (.iload 4, 2) := dk_21 4 (dk_at dksX7_few_4 13 rfl rfl)
theorem dX7_few_111 : decode cX7_few 111 = .ok (.aload_n 0, 1) := dk_42 (dk_at dksX7_few_4 15 rfl rfl)
theorem dX7_few_112 : decode cX7_few 112 = .ok (.getfield 127, 3) := dk_180 0 127 (dk_at dksX7_few_4 16 rfl rfl)
theorem dX7_few_115 : decode cX7_few 115 = .ok (.iload 4, 2) := dk_21 4 (dk_at dksX7_few_4 19 rfl rfl)
theorem dX7_few_117 : decode cX7_few 117 = .ok (.laload, 1) := dk_47 (dk_at dksX7_few_4 21 rfl rfl)
theorem dX7_few_118 : decode cX7_few 118 = .ok (.bipush 10, 2) := dk_16 10 (dk_at dksX7_few_4 22 rfl rfl)
theorem dX7_few_120 : decode cX7_few 120 = .ok (.aload_n 0, 1) := dk_42 (dk_at dksX7_few_5 0 rfl rfl)
theorem dX7_few_121 : decode cX7_few 121 = .ok (.getfield 28, 3) := dk_180 0 28 (dk_at dksX7_few_5 1 rfl rfl)
theorem dX7_few_124 : decode cX7_few 124 = .ok (.sipush 382, 3) := dk_17 1 126 (dk_at dksX7_few_5 4 rfl rfl)
theorem dX7_few_127 : decode cX7_few 127 = .ok (.iaload, 1) := dk_46 (dk_at dksX7_few_5 7 rfl rfl)
theorem dX7_few_128 : decode cX7_few 128 = .ok (.isub, 1) := dk_100 (dk_at dksX7_few_5 8 rfl rfl)
theorem dX7_few_129 : decode cX7_few 129 = .ok (.i2l, 1) := dk_133 (dk_at dksX7_few_5 9 rfl rfl)
theorem dX7_few_130 : decode cX7_few 130 = .ok (.lmul, 1) := dk_105 (dk_at dksX7_few_5 10 rfl rfl)
theorem dX7_few_131 : decode cX7_few 131 = .ok (.ldc2_w 506, 3) := dk_20 1 250 (dk_at dksX7_few_5 11 rfl rfl)
theorem dX7_few_134 : decode cX7_few 134 = .ok (.ldiv, 1) := dk_109 (dk_at dksX7_few_5 14 rfl rfl)
theorem dX7_few_135 : decode cX7_few 135 = .ok (.lastore, 1) := dk_80 (dk_at dksX7_few_5 15 rfl rfl)
theorem dX7_few_136 : decode cX7_few 136 = .ok (.iinc 4 (-1), 3) := dk_132 4 255 (dk_at dksX7_few_5 16 rfl rfl)
theorem dX7_few_139 : decode cX7_few 139 = .ok (.goto (-72), 3) := dk_167 255 184 (dk_at dksX7_few_5 19 rfl rfl)
theorem dX7_few_142 : decode cX7_few 142 = .ok (.iinc 3 1, 3) := dk_132 3 1 (dk_at dksX7_few_6 0 rfl rfl)
theorem dX7_few_145 : decode cX7_few 145 = .ok (.goto (-88), 3) := dk_167 255 168 (dk_at dksX7_few_6 3 rfl rfl)
theorem dX7_few_148 : decode cX7_few 148 = .ok (.lconst 0, 1) := dk_9 (dk_at dksX7_few_6 6 rfl rfl)
theorem dX7_few_149 : decode cX7_few 149 = .ok (.lstore_n 3, 1) := dk_66 (dk_at dksX7_few_6 7 rfl rfl)
theorem dX7_few_150 : decode cX7_few 150 = .ok (.iconst 0, 1) := dk_3 (dk_at dksX7_few_6 8 rfl rfl)
theorem dX7_few_151 : decode cX7_few 151 = .ok (.istore 5, 2) := dk_54 5 (dk_at dksX7_few_6 9 rfl rfl)
theorem dX7_few_153 : decode cX7_few 153 = .ok (.iload 5, 2) := dk_21 5 (dk_at dksX7_few_6 11 rfl rfl)
theorem dX7_few_155 : decode cX7_few 155 = .ok (.iload_n 1, 1) := dk_27 (dk_at dksX7_few_6 13 rfl rfl)
theorem dX7_few_156 : decode cX7_few 156 = .ok (.if_icmp .ge 19, 3) := dk_162 0 19 (dk_at dksX7_few_6 14 rfl rfl)
theorem dX7_few_159 : decode cX7_few 159 = .ok (.lload_n 3, 1) := dk_33 (dk_at dksX7_few_6 17 rfl rfl)
theorem dX7_few_160 : decode cX7_few 160 = .ok (.aload_n 0, 1) := dk_42 (dk_at dksX7_few_6 18 rfl rfl)
theorem dX7_few_161 : decode cX7_few 161 = .ok (.getfield 127, 3) := dk_180 0 127 (dk_at dksX7_few_6 19 rfl rfl)
theorem dX7_few_164 : decode cX7_few 164 = .ok (.iload 5, 2) := dk_21 5 (dk_at dksX7_few_6 22 rfl rfl)
theorem dX7_few_166 : decode cX7_few 166 = .ok (.laload, 1) := dk_47 (dk_at dksX7_few_7 0 rfl rfl)
theorem dX7_few_167 : decode cX7_few 167 = .ok (.ladd, 1) := dk_97 (dk_at dksX7_few_7 1 rfl rfl)
theorem dX7_few_168 : decode cX7_few 168 = .ok (.lstore_n 3, 1) := dk_66 (dk_at dksX7_few_7 2 rfl rfl)
theorem dX7_few_169 : decode cX7_few 169 = .ok (.iinc 5 1, 3) := dk_132 5 1 (dk_at dksX7_few_7 3 rfl rfl)
theorem dX7_few_172 : decode cX7_few 172 = .ok (.goto (-19), 3) := dk_167 255 237 (dk_at dksX7_few_7 6 rfl rfl)
theorem dX7_few_175 : decode cX7_few 175 = .ok (.lload_n 3, 1) := dk_33 (dk_at dksX7_few_7 9 rfl rfl)
theorem dX7_few_176 : decode cX7_few 176 = .ok (.lreturn, 1) := dk_173 (dk_at dksX7_few_7 10 rfl rfl)
abbrev cX7_compare : ByteArray := prog_32_method_132_code
def yX7_compare : MethodName := ⟨RX7, "compare", "(III)I"⟩
def dkwX7_compare_2 : List UInt8 := [182, 0, 166, 54, 5, 42, 180, 0, 28, 17, 1, 131, 21, 4, 79, 21, 5, 172]
abbrev dktX7_compare_2 : List UInt8 := dkwX7_compare_2 ++ []
def dkwX7_compare_1 : List UInt8 := [42, 180, 0, 28, 17, 1, 131, 46, 54, 4, 42, 180, 0, 28, 17, 1, 131, 27, 79, 42, 28, 29]
abbrev dktX7_compare_1 : List UInt8 := dkwX7_compare_1 ++ dktX7_compare_2
def dkwX7_compare_0 : List UInt8 := [42, 27, 182, 1, 32, 153, 0, 17, 28, 184, 0, 152, 153, 0, 10, 29, 184, 0, 156, 154, 0, 5, 2, 172]
abbrev dktX7_compare_0 : List UInt8 := dkwX7_compare_0 ++ dktX7_compare_1
theorem dksX7_compare_0 : cX7_compare.data.toList.drop 0 = dktX7_compare_0 := by decide +kernel
theorem dksX7_compare_1 : cX7_compare.data.toList.drop 24 = dktX7_compare_1 := dk_seg dksX7_compare_0 24 rfl rfl
theorem dksX7_compare_2 : cX7_compare.data.toList.drop 46 = dktX7_compare_2 := dk_seg dksX7_compare_1 22 rfl rfl
theorem dX7_compare_0 : decode cX7_compare 0 = .ok (.aload_n 0, 1) := dk_42 (dk_at dksX7_compare_0 0 rfl rfl)
theorem dX7_compare_1 : decode cX7_compare 1 = .ok (.iload_n 1, 1) := dk_27 (dk_at dksX7_compare_0 1 rfl rfl)
theorem dX7_compare_2 : decode cX7_compare 2 = .ok (.invokevirtual 288, 3) := dk_182 1 32 (dk_at dksX7_compare_0 2 rfl rfl)
theorem dX7_compare_5 : decode cX7_compare 5 = .ok (.ifCond .eq 17, 3) := dk_153 0 17 (dk_at dksX7_compare_0 5 rfl rfl)
theorem dX7_compare_8 : decode cX7_compare 8 = .ok (.iload_n 2, 1) := dk_28 (dk_at dksX7_compare_0 8 rfl rfl)
theorem dX7_compare_9 : decode cX7_compare 9 = .ok (.invokestatic 152, 3) := dk_184 0 152 (dk_at dksX7_compare_0 9 rfl rfl)
theorem dX7_compare_12 : decode cX7_compare 12 = .ok (.ifCond .eq 10, 3) := dk_153 0 10 (dk_at dksX7_compare_0 12 rfl rfl)
theorem dX7_compare_15 : decode cX7_compare 15 = .ok (.iload_n 3, 1) := dk_29 (dk_at dksX7_compare_0 15 rfl rfl)
theorem dX7_compare_16 : decode cX7_compare 16 = .ok (.invokestatic 156, 3) := dk_184 0 156 (dk_at dksX7_compare_0 16 rfl rfl)
theorem dX7_compare_19 : decode cX7_compare 19 = .ok (.ifCond .ne 5, 3) := dk_154 0 5 (dk_at dksX7_compare_0 19 rfl rfl)
theorem dX7_compare_22 : decode cX7_compare 22 = .ok (.iconst (-1), 1) := dk_2 (dk_at dksX7_compare_0 22 rfl rfl)
theorem dX7_compare_23 : decode cX7_compare 23 = .ok (.ireturn, 1) := dk_172 (dk_at dksX7_compare_0 23 rfl rfl)
theorem dX7_compare_24 : decode cX7_compare 24 = .ok (.aload_n 0, 1) := dk_42 (dk_at dksX7_compare_1 0 rfl rfl)
theorem dX7_compare_25 : decode cX7_compare 25 = .ok (.getfield 28, 3) := dk_180 0 28 (dk_at dksX7_compare_1 1 rfl rfl)
theorem dX7_compare_28 : decode cX7_compare 28 = .ok (.sipush 387, 3) := dk_17 1 131 (dk_at dksX7_compare_1 4 rfl rfl)
theorem dX7_compare_31 : decode cX7_compare 31 = .ok (.iaload, 1) := dk_46 (dk_at dksX7_compare_1 7 rfl rfl)
theorem dX7_compare_32 : decode cX7_compare 32 = .ok (.istore 4, 2) := dk_54 4 (dk_at dksX7_compare_1 8 rfl rfl)
theorem dX7_compare_34 : decode cX7_compare 34 = .ok (.aload_n 0, 1) := dk_42 (dk_at dksX7_compare_1 10 rfl rfl)
theorem dX7_compare_35 : decode cX7_compare 35 = .ok (.getfield 28, 3) := dk_180 0 28 (dk_at dksX7_compare_1 11 rfl rfl)
theorem dX7_compare_38 : decode cX7_compare 38 = .ok (.sipush 387, 3) := dk_17 1 131 (dk_at dksX7_compare_1 14 rfl rfl)
theorem dX7_compare_41 : decode cX7_compare 41 = .ok (.iload_n 1, 1) := dk_27 (dk_at dksX7_compare_1 17 rfl rfl)
theorem dX7_compare_42 : decode cX7_compare 42 = .ok (.iastore, 1) := dk_79 (dk_at dksX7_compare_1 18 rfl rfl)
theorem dX7_compare_43 : decode cX7_compare 43 = .ok (.aload_n 0, 1) := dk_42 (dk_at dksX7_compare_1 19 rfl rfl)
theorem dX7_compare_44 : decode cX7_compare 44 = .ok (.iload_n 2, 1) := dk_28 (dk_at dksX7_compare_1 20 rfl rfl)
theorem dX7_compare_45 : decode cX7_compare 45 = .ok (.iload_n 3, 1) := dk_29 (dk_at dksX7_compare_1 21 rfl rfl)
theorem dX7_compare_46 : decode cX7_compare 46 = .ok (.invokevirtual 166, 3) := dk_182 0 166 (dk_at dksX7_compare_2 0 rfl rfl)
theorem dX7_compare_49 : decode cX7_compare 49 = .ok (.istore 5, 2) := dk_54 5 (dk_at dksX7_compare_2 3 rfl rfl)
theorem dX7_compare_51 : decode cX7_compare 51 = .ok (.aload_n 0, 1) := dk_42 (dk_at dksX7_compare_2 5 rfl rfl)
theorem dX7_compare_52 : decode cX7_compare 52 = .ok (.getfield 28, 3) := dk_180 0 28 (dk_at dksX7_compare_2 6 rfl rfl)
theorem dX7_compare_55 : decode cX7_compare 55 = .ok (.sipush 387, 3) := dk_17 1 131 (dk_at dksX7_compare_2 9 rfl rfl)
theorem dX7_compare_58 : decode cX7_compare 58 = .ok (.iload 4, 2) := dk_21 4 (dk_at dksX7_compare_2 12 rfl rfl)
theorem dX7_compare_60 : decode cX7_compare 60 = .ok (.iastore, 1) := dk_79 (dk_at dksX7_compare_2 14 rfl rfl)
theorem dX7_compare_61 : decode cX7_compare 61 = .ok (.iload 5, 2) := dk_21 5 (dk_at dksX7_compare_2 15 rfl rfl)
theorem dX7_compare_63 : decode cX7_compare 63 = .ok (.ireturn, 1) := dk_172 (dk_at dksX7_compare_2 17 rfl rfl)
abbrev cX7_stopped : ByteArray := prog_32_method_133_code
def yX7_stopped : MethodName := ⟨RX7, "stopped", "()I"⟩
theorem dX7_stopped_0 : decode cX7_stopped 0 = .ok (.aload_n 0, 1) := by decide +kernel
theorem dX7_stopped_1 : decode cX7_stopped 1 = .ok (.getfield 130, 3) := by decide +kernel
theorem dX7_stopped_4 : decode cX7_stopped 4 = .ok (.ireturn, 1) := by decide +kernel
abbrev cX7_orders : ByteArray := prog_32_method_135_code
def yX7_orders : MethodName := ⟨RX7, "orders", "()I"⟩
def dkwX7_orders_7 : List UInt8 := [172]
abbrev dktX7_orders_7 : List UInt8 := dkwX7_orders_7 ++ []
def dkwX7_orders_6 : List UInt8 := [181, 0, 130, 42, 16, 253, 182, 0, 146, 172, 132, 3, 1, 167, 255, 192, 42, 42, 180, 1, 74, 182, 0, 14]
abbrev dktX7_orders_6 : List UInt8 := dkwX7_orders_6 ++ dktX7_orders_7
def dkwX7_orders_5 : List UInt8 := [42, 180, 0, 79, 42, 180, 0, 82, 42, 180, 0, 85, 182, 1, 255, 42, 27, 181, 0, 11, 42, 29]
abbrev dktX7_orders_5 : List UInt8 := dkwX7_orders_5 ++ dktX7_orders_6
def dkwX7_orders_4 : List UInt8 := [162, 0, 62, 42, 28, 182, 2, 6, 153, 0, 6, 167, 0, 45, 42, 4, 182, 2, 9, 42, 42, 180, 0, 76]
abbrev dktX7_orders_4 : List UInt8 := dkwX7_orders_4 ++ dktX7_orders_5
def dkwX7_orders_3 : List UInt8 := [181, 2, 3, 42, 180, 2, 3, 42, 180, 0, 28, 17, 1, 138, 46, 96, 61, 3, 62, 42, 180, 2, 3, 28]
abbrev dktX7_orders_3 : List UInt8 := dkwX7_orders_3 ++ dktX7_orders_4
def dkwX7_orders_2 : List UInt8 := [180, 0, 11, 60, 42, 16, 6, 182, 1, 29, 42, 3, 181, 1, 74, 42, 2, 181, 1, 77, 42, 17, 9, 96]
abbrev dktX7_orders_2 : List UInt8 := dkwX7_orders_2 ++ dktX7_orders_3
def dkwX7_orders_1 : List UInt8 := [182, 1, 252, 42, 42, 180, 0, 82, 42, 180, 0, 85, 42, 180, 0, 76, 42, 180, 0, 79, 182, 1, 255, 42]
abbrev dktX7_orders_1 : List UInt8 := dkwX7_orders_1 ++ dktX7_orders_2
def dkwX7_orders_0 : List UInt8 := [42, 2, 181, 0, 130, 42, 4, 182, 1, 25, 154, 0, 10, 42, 16, 250, 182, 0, 146, 172, 42, 4]
abbrev dktX7_orders_0 : List UInt8 := dkwX7_orders_0 ++ dktX7_orders_1
theorem dksX7_orders_0 : cX7_orders.data.toList.drop 0 = dktX7_orders_0 := by decide +kernel
theorem dksX7_orders_1 : cX7_orders.data.toList.drop 22 = dktX7_orders_1 := dk_seg dksX7_orders_0 22 rfl rfl
theorem dksX7_orders_2 : cX7_orders.data.toList.drop 46 = dktX7_orders_2 := dk_seg dksX7_orders_1 24 rfl rfl
theorem dksX7_orders_3 : cX7_orders.data.toList.drop 70 = dktX7_orders_3 := dk_seg dksX7_orders_2 24 rfl rfl
theorem dksX7_orders_4 : cX7_orders.data.toList.drop 94 = dktX7_orders_4 := dk_seg dksX7_orders_3 24 rfl rfl
theorem dksX7_orders_5 : cX7_orders.data.toList.drop 118 = dktX7_orders_5 := dk_seg dksX7_orders_4 24 rfl rfl
theorem dksX7_orders_6 : cX7_orders.data.toList.drop 140 = dktX7_orders_6 := dk_seg dksX7_orders_5 22 rfl rfl
theorem dksX7_orders_7 : cX7_orders.data.toList.drop 164 = dktX7_orders_7 := dk_seg dksX7_orders_6 24 rfl rfl
theorem dX7_orders_0 : decode cX7_orders 0 = .ok (.aload_n 0, 1) := dk_42 (dk_at dksX7_orders_0 0 rfl rfl)
theorem dX7_orders_1 : decode cX7_orders 1 = .ok (.iconst (-1), 1) := dk_2 (dk_at dksX7_orders_0 1 rfl rfl)
theorem dX7_orders_2 : decode cX7_orders 2 = .ok (.putfield 130, 3) := dk_181 0 130 (dk_at dksX7_orders_0 2 rfl rfl)
theorem dX7_orders_5 : decode cX7_orders 5 = .ok (.aload_n 0, 1) := dk_42 (dk_at dksX7_orders_0 5 rfl rfl)
theorem dX7_orders_6 : decode cX7_orders 6 = .ok (.iconst 1, 1) := dk_4 (dk_at dksX7_orders_0 6 rfl rfl)
theorem dX7_orders_7 : decode cX7_orders 7 = .ok (.invokevirtual 281, 3) := dk_182 1 25 (dk_at dksX7_orders_0 7 rfl rfl)
theorem dX7_orders_10 : decode cX7_orders 10 = .ok (.ifCond .ne 10, 3) := dk_154 0 10 (dk_at dksX7_orders_0 10 rfl rfl)
theorem dX7_orders_13 : decode cX7_orders 13 = .ok (.aload_n 0, 1) := dk_42 (dk_at dksX7_orders_0 13 rfl rfl)
theorem dX7_orders_14 : decode cX7_orders 14 = .ok (.bipush (-6), 2) := dk_16 250 (dk_at dksX7_orders_0 14 rfl rfl)
theorem dX7_orders_16 : decode cX7_orders 16 = .ok (.invokevirtual 146, 3) := dk_182 0 146 (dk_at dksX7_orders_0 16 rfl rfl)
theorem dX7_orders_19 : decode cX7_orders 19 = .ok (.ireturn, 1) := dk_172 (dk_at dksX7_orders_0 19 rfl rfl)
theorem dX7_orders_20 : decode cX7_orders 20 = .ok (.aload_n 0, 1) := dk_42 (dk_at dksX7_orders_0 20 rfl rfl)
theorem dX7_orders_21 : decode cX7_orders 21 = .ok (.iconst 1, 1) := dk_4 (dk_at dksX7_orders_0 21 rfl rfl)
theorem dX7_orders_22 : decode cX7_orders 22 = .ok (.invokevirtual 508, 3) := dk_182 1 252 (dk_at dksX7_orders_1 0 rfl rfl)
theorem dX7_orders_25 : decode cX7_orders 25 = .ok (.aload_n 0, 1) := dk_42 (dk_at dksX7_orders_1 3 rfl rfl)
theorem dX7_orders_26 : decode cX7_orders 26 = .ok (.aload_n 0, 1) := dk_42 (dk_at dksX7_orders_1 4 rfl rfl)
theorem dX7_orders_27 : decode cX7_orders 27 = .ok (.getfield 82, 3) := dk_180 0 82 (dk_at dksX7_orders_1 5 rfl rfl)
theorem dX7_orders_30 : decode cX7_orders 30 = .ok (.aload_n 0, 1) := dk_42 (dk_at dksX7_orders_1 8 rfl rfl)
theorem dX7_orders_31 : decode cX7_orders 31 = .ok (.getfield 85, 3) := dk_180 0 85 (dk_at dksX7_orders_1 9 rfl rfl)
theorem dX7_orders_34 : decode cX7_orders 34 = .ok (.aload_n 0, 1) := dk_42 (dk_at dksX7_orders_1 12 rfl rfl)
theorem dX7_orders_35 : decode cX7_orders 35 = .ok (.getfield 76, 3) := dk_180 0 76 (dk_at dksX7_orders_1 13 rfl rfl)
theorem dX7_orders_38 : decode cX7_orders 38 = .ok (.aload_n 0, 1) := dk_42 (dk_at dksX7_orders_1 16 rfl rfl)
theorem dX7_orders_39 : decode cX7_orders 39 = .ok (.getfield 79, 3) := dk_180 0 79 (dk_at dksX7_orders_1 17 rfl rfl)
theorem dX7_orders_42 : decode cX7_orders 42 = .ok (.invokevirtual 511, 3) := dk_182 1 255 (dk_at dksX7_orders_1 20 rfl rfl)
theorem dX7_orders_45 : decode cX7_orders 45 = .ok (.aload_n 0, 1) := dk_42 (dk_at dksX7_orders_1 23 rfl rfl)
theorem dX7_orders_46 : decode cX7_orders 46 = .ok (.getfield 11, 3) := dk_180 0 11 (dk_at dksX7_orders_2 0 rfl rfl)
theorem dX7_orders_49 : decode cX7_orders 49 = .ok (.istore_n 1, 1) := dk_60 (dk_at dksX7_orders_2 3 rfl rfl)
theorem dX7_orders_50 : decode cX7_orders 50 = .ok (.aload_n 0, 1) := dk_42 (dk_at dksX7_orders_2 4 rfl rfl)
theorem dX7_orders_51 : decode cX7_orders 51 = .ok (.bipush 6, 2) := dk_16 6 (dk_at dksX7_orders_2 5 rfl rfl)
theorem dX7_orders_53 : decode cX7_orders 53 = .ok (.invokevirtual 285, 3) := dk_182 1 29 (dk_at dksX7_orders_2 7 rfl rfl)
theorem dX7_orders_56 : decode cX7_orders 56 = .ok (.aload_n 0, 1) := dk_42 (dk_at dksX7_orders_2 10 rfl rfl)
theorem dX7_orders_57 : decode cX7_orders 57 = .ok (.iconst 0, 1) := dk_3 (dk_at dksX7_orders_2 11 rfl rfl)
theorem dX7_orders_58 : decode cX7_orders 58 = .ok (.putfield 330, 3) := dk_181 1 74 (dk_at dksX7_orders_2 12 rfl rfl)
theorem dX7_orders_61 : decode cX7_orders 61 = .ok (.aload_n 0, 1) := dk_42 (dk_at dksX7_orders_2 15 rfl rfl)
theorem dX7_orders_62 : decode cX7_orders 62 = .ok (.iconst (-1), 1) := dk_2 (dk_at dksX7_orders_2 16 rfl rfl)
theorem dX7_orders_63 : decode cX7_orders 63 = .ok (.putfield 333, 3) := dk_181 1 77 (dk_at dksX7_orders_2 17 rfl rfl)
theorem dX7_orders_66 : decode cX7_orders 66 = .ok (.aload_n 0, 1) := dk_42 (dk_at dksX7_orders_2 20 rfl rfl)
theorem dX7_orders_67 : decode cX7_orders 67 = .ok (.sipush 2400, 3) := dk_17 9 96 (dk_at dksX7_orders_2 21 rfl rfl)
theorem dX7_orders_70 : decode cX7_orders 70 = .ok (.putfield 515, 3) := dk_181 2 3 (dk_at dksX7_orders_3 0 rfl rfl)
theorem dX7_orders_73 : decode cX7_orders 73 = .ok (.aload_n 0, 1) := dk_42 (dk_at dksX7_orders_3 3 rfl rfl)
theorem dX7_orders_74 : decode cX7_orders 74 = .ok (.getfield 515, 3) := dk_180 2 3 (dk_at dksX7_orders_3 4 rfl rfl)
theorem dX7_orders_77 : decode cX7_orders 77 = .ok (.aload_n 0, 1) := dk_42 (dk_at dksX7_orders_3 7 rfl rfl)
theorem dX7_orders_78 : decode cX7_orders 78 = .ok (.getfield 28, 3) := dk_180 0 28 (dk_at dksX7_orders_3 8 rfl rfl)
theorem dX7_orders_81 : decode cX7_orders 81 = .ok (.sipush 394, 3) := dk_17 1 138 (dk_at dksX7_orders_3 11 rfl rfl)
theorem dX7_orders_84 : decode cX7_orders 84 = .ok (.iaload, 1) := dk_46 (dk_at dksX7_orders_3 14 rfl rfl)
theorem dX7_orders_85 : decode cX7_orders 85 = .ok (.iadd, 1) := dk_96 (dk_at dksX7_orders_3 15 rfl rfl)
theorem dX7_orders_86 : decode cX7_orders 86 = .ok (.istore_n 2, 1) := dk_61 (dk_at dksX7_orders_3 16 rfl rfl)
theorem dX7_orders_87 : decode cX7_orders 87 = .ok (.iconst 0, 1) := dk_3 (dk_at dksX7_orders_3 17 rfl rfl)
theorem dX7_orders_88 : decode cX7_orders 88 = .ok (.istore_n 3, 1) := dk_62 (dk_at dksX7_orders_3 18 rfl rfl)
theorem dX7_orders_89 : decode cX7_orders 89 = .ok (.aload_n 0, 1) := dk_42 (dk_at dksX7_orders_3 19 rfl rfl)
theorem dX7_orders_90 : decode cX7_orders 90 = .ok (.getfield 515, 3) := dk_180 2 3 (dk_at dksX7_orders_3 20 rfl rfl)
theorem dX7_orders_93 : decode cX7_orders 93 = .ok (.iload_n 2, 1) := dk_28 (dk_at dksX7_orders_3 23 rfl rfl)
theorem dX7_orders_94 : decode cX7_orders 94 = .ok (.if_icmp .ge 62, 3) := dk_162 0 62 (dk_at dksX7_orders_4 0 rfl rfl)
theorem dX7_orders_97 : decode cX7_orders 97 = .ok (.aload_n 0, 1) := dk_42 (dk_at dksX7_orders_4 3 rfl rfl)
theorem dX7_orders_98 : decode cX7_orders 98 = .ok (.iload_n 2, 1) := dk_28 (dk_at dksX7_orders_4 4 rfl rfl)
theorem dX7_orders_99 : decode cX7_orders 99 = .ok (.invokevirtual 518, 3) := dk_182 2 6 (dk_at dksX7_orders_4 5 rfl rfl)
theorem dX7_orders_102 : decode cX7_orders 102 = .ok (.ifCond .eq 6, 3) := dk_153 0 6 (dk_at dksX7_orders_4 8 rfl rfl)
theorem dX7_orders_105 : decode cX7_orders 105 = .ok (.goto 45, 3) := dk_167 0 45 (dk_at dksX7_orders_4 11 rfl rfl)
theorem dX7_orders_108 : decode cX7_orders 108 = .ok (.aload_n 0, 1) := dk_42 (dk_at dksX7_orders_4 14 rfl rfl)
theorem dX7_orders_109 : decode cX7_orders 109 = .ok (.iconst 1, 1) := dk_4 (dk_at dksX7_orders_4 15 rfl rfl)
theorem dX7_orders_110 : decode cX7_orders 110 = .ok (.invokevirtual 521, 3) := dk_182 2 9 (dk_at dksX7_orders_4 16 rfl rfl)
theorem dX7_orders_113 : decode cX7_orders 113 = .ok (.aload_n 0, 1) := dk_42 (dk_at dksX7_orders_4 19 rfl rfl)
theorem dX7_orders_114 : decode cX7_orders 114 = .ok (.aload_n 0, 1) := dk_42 (dk_at dksX7_orders_4 20 rfl rfl)
theorem dX7_orders_115 : decode cX7_orders 115 = .ok (.getfield 76, 3) := dk_180 0 76 (dk_at dksX7_orders_4 21 rfl rfl)
theorem dX7_orders_118 : decode cX7_orders 118 = .ok (.aload_n 0, 1) := dk_42 (dk_at dksX7_orders_5 0 rfl rfl)
theorem dX7_orders_119 : decode cX7_orders 119 = .ok (.getfield 79, 3) := dk_180 0 79 (dk_at dksX7_orders_5 1 rfl rfl)
theorem dX7_orders_122 : decode cX7_orders 122 = .ok (.aload_n 0, 1) := dk_42 (dk_at dksX7_orders_5 4 rfl rfl)
theorem dX7_orders_123 : decode cX7_orders 123 = .ok (.getfield 82, 3) := dk_180 0 82 (dk_at dksX7_orders_5 5 rfl rfl)
theorem dX7_orders_126 : decode cX7_orders 126 = .ok (.aload_n 0, 1) := dk_42 (dk_at dksX7_orders_5 8 rfl rfl)
theorem dX7_orders_127 : decode cX7_orders 127 = .ok (.getfield 85, 3) := dk_180 0 85 (dk_at dksX7_orders_5 9 rfl rfl)
theorem dX7_orders_130 : decode cX7_orders 130 = .ok (.invokevirtual 511, 3) := dk_182 1 255 (dk_at dksX7_orders_5 12 rfl rfl)
theorem dX7_orders_133 : decode cX7_orders 133 = .ok (.aload_n 0, 1) := dk_42 (dk_at dksX7_orders_5 15 rfl rfl)
theorem dX7_orders_134 : decode cX7_orders 134 = .ok (.iload_n 1, 1) := dk_27 (dk_at dksX7_orders_5 16 rfl rfl)
theorem dX7_orders_135 : decode cX7_orders 135 = .ok (.putfield 11, 3) := dk_181 0 11 (dk_at dksX7_orders_5 17 rfl rfl)
theorem dX7_orders_138 : decode cX7_orders 138 = .ok (.aload_n 0, 1) := dk_42 (dk_at dksX7_orders_5 20 rfl rfl)
theorem dX7_orders_139 : decode cX7_orders 139 = .ok (.iload_n 3, 1) := dk_29 (dk_at dksX7_orders_5 21 rfl rfl)
theorem dX7_orders_140 : decode cX7_orders 140 = .ok (.putfield 130, 3) := dk_181 0 130 (dk_at dksX7_orders_6 0 rfl rfl)
theorem dX7_orders_143 : decode cX7_orders 143 = .ok (.aload_n 0, 1) := dk_42 (dk_at dksX7_orders_6 3 rfl rfl)
theorem dX7_orders_144 : decode cX7_orders 144 = .ok (.bipush (-3), 2) := dk_16 253 (dk_at dksX7_orders_6 4 rfl rfl)
theorem dX7_orders_146 : decode cX7_orders 146 = .ok (.invokevirtual 146, 3) := dk_182 0 146 (dk_at dksX7_orders_6 6 rfl rfl)
theorem dX7_orders_149 : decode cX7_orders 149 = .ok (.ireturn, 1) := dk_172 (dk_at dksX7_orders_6 9 rfl rfl)
theorem dX7_orders_150 : decode cX7_orders 150 = .ok (.iinc 3 1, 3) := dk_132 3 1 (dk_at dksX7_orders_6 10 rfl rfl)
theorem dX7_orders_153 : decode cX7_orders 153 = .ok (.goto (-64), 3) := dk_167 255 192 (dk_at dksX7_orders_6 13 rfl rfl)
theorem dX7_orders_156 : decode cX7_orders 156 = .ok (.aload_n 0, 1) := dk_42 (dk_at dksX7_orders_6 16 rfl rfl)
theorem dX7_orders_157 : decode cX7_orders 157 = .ok (.aload_n 0, 1) := dk_42 (dk_at dksX7_orders_6 17 rfl rfl)
theorem dX7_orders_158 : decode cX7_orders 158 = .ok (.getfield 330, 3) := dk_180 1 74 (dk_at dksX7_orders_6 18 rfl rfl)
theorem dX7_orders_161 : decode cX7_orders 161 = .ok (.invokevirtual 14, 3) := dk_182 0 14 (dk_at dksX7_orders_6 21 rfl rfl)
theorem dX7_orders_164 : decode cX7_orders 164 = .ok (.ireturn, 1) := dk_172 (dk_at dksX7_orders_7 0 rfl rfl)
abbrev cX7_laysAside : ByteArray := prog_32_method_13_code
def yX7_laysAside : MethodName := ⟨RX7, "laysAside", "(I)V"⟩
def dkwX7_laysAside_2 : List UInt8 := [104, 28, 96, 42, 180, 0, 31, 28, 47, 80, 132, 2, 1, 167, 255, 230, 177]
abbrev dktX7_laysAside_2 : List UInt8 := dkwX7_laysAside_2 ++ []
def dkwX7_laysAside_1 : List UInt8 := [28, 46, 79, 132, 2, 1, 167, 255, 228, 3, 61, 28, 16, 100, 162, 0, 26, 42, 180, 0, 48, 16, 100, 27]
abbrev dktX7_laysAside_1 : List UInt8 := dkwX7_laysAside_1 ++ dktX7_laysAside_2
def dkwX7_laysAside_0 : List UInt8 := [3, 61, 28, 17, 1, 113, 162, 0, 27, 42, 180, 0, 45, 17, 1, 113, 27, 104, 28, 96, 42, 180, 0, 28]
abbrev dktX7_laysAside_0 : List UInt8 := dkwX7_laysAside_0 ++ dktX7_laysAside_1
theorem dksX7_laysAside_0 : cX7_laysAside.data.toList.drop 0 = dktX7_laysAside_0 := by decide +kernel
theorem dksX7_laysAside_1 : cX7_laysAside.data.toList.drop 24 = dktX7_laysAside_1 := dk_seg dksX7_laysAside_0 24 rfl rfl
theorem dksX7_laysAside_2 : cX7_laysAside.data.toList.drop 48 = dktX7_laysAside_2 := dk_seg dksX7_laysAside_1 24 rfl rfl
theorem dX7_laysAside_0 : decode cX7_laysAside 0 = .ok (.iconst 0, 1) := dk_3 (dk_at dksX7_laysAside_0 0 rfl rfl)
theorem dX7_laysAside_1 : decode cX7_laysAside 1 = .ok (.istore_n 2, 1) := dk_61 (dk_at dksX7_laysAside_0 1 rfl rfl)
theorem dX7_laysAside_2 : decode cX7_laysAside 2 = .ok (.iload_n 2, 1) := dk_28 (dk_at dksX7_laysAside_0 2 rfl rfl)
theorem dX7_laysAside_3 : decode cX7_laysAside 3 = .ok (.sipush 369, 3) := dk_17 1 113 (dk_at dksX7_laysAside_0 3 rfl rfl)
theorem dX7_laysAside_6 : decode cX7_laysAside 6 = .ok (.if_icmp .ge 27, 3) := dk_162 0 27 (dk_at dksX7_laysAside_0 6 rfl rfl)
theorem dX7_laysAside_9 : decode cX7_laysAside 9 = .ok (.aload_n 0, 1) := dk_42 (dk_at dksX7_laysAside_0 9 rfl rfl)
theorem dX7_laysAside_10 : decode cX7_laysAside 10 = .ok (.getfield 45, 3) := dk_180 0 45 (dk_at dksX7_laysAside_0 10 rfl rfl)
theorem dX7_laysAside_13 : decode cX7_laysAside 13 = .ok (.sipush 369, 3) := dk_17 1 113 (dk_at dksX7_laysAside_0 13 rfl rfl)
theorem dX7_laysAside_16 : decode cX7_laysAside 16 = .ok (.iload_n 1, 1) := dk_27 (dk_at dksX7_laysAside_0 16 rfl rfl)
theorem dX7_laysAside_17 : decode cX7_laysAside 17 = .ok (.imul, 1) := dk_104 (dk_at dksX7_laysAside_0 17 rfl rfl)
theorem dX7_laysAside_18 : decode cX7_laysAside 18 = .ok (.iload_n 2, 1) := dk_28 (dk_at dksX7_laysAside_0 18 rfl rfl)
theorem dX7_laysAside_19 : decode cX7_laysAside 19 = .ok (.iadd, 1) := dk_96 (dk_at dksX7_laysAside_0 19 rfl rfl)
theorem dX7_laysAside_20 : decode cX7_laysAside 20 = .ok (.aload_n 0, 1) := dk_42 (dk_at dksX7_laysAside_0 20 rfl rfl)
theorem dX7_laysAside_21 : decode cX7_laysAside 21 = .ok (.getfield 28, 3) := dk_180 0 28 (dk_at dksX7_laysAside_0 21 rfl rfl)
theorem dX7_laysAside_24 : decode cX7_laysAside 24 = .ok (.iload_n 2, 1) := dk_28 (dk_at dksX7_laysAside_1 0 rfl rfl)
theorem dX7_laysAside_25 : decode cX7_laysAside 25 = .ok (.iaload, 1) := dk_46 (dk_at dksX7_laysAside_1 1 rfl rfl)
theorem dX7_laysAside_26 : decode cX7_laysAside 26 = .ok (.iastore, 1) := dk_79 (dk_at dksX7_laysAside_1 2 rfl rfl)
theorem dX7_laysAside_27 : decode cX7_laysAside 27 = .ok (.iinc 2 1, 3) := dk_132 2 1 (dk_at dksX7_laysAside_1 3 rfl rfl)
theorem dX7_laysAside_30 : decode cX7_laysAside 30 = .ok (.goto (-28), 3) := dk_167 255 228 (dk_at dksX7_laysAside_1 6 rfl rfl)
theorem dX7_laysAside_33 : decode cX7_laysAside 33 = .ok (.iconst 0, 1) := dk_3 (dk_at dksX7_laysAside_1 9 rfl rfl)
theorem dX7_laysAside_34 : decode cX7_laysAside 34 = .ok (.istore_n 2, 1) := dk_61 (dk_at dksX7_laysAside_1 10 rfl rfl)
theorem dX7_laysAside_35 : decode cX7_laysAside 35 = .ok (.iload_n 2, 1) := dk_28 (dk_at dksX7_laysAside_1 11 rfl rfl)
theorem dX7_laysAside_36 : decode cX7_laysAside 36 = .ok (.bipush 100, 2) := dk_16 100 (dk_at dksX7_laysAside_1 12 rfl rfl)
theorem dX7_laysAside_38 : decode cX7_laysAside 38 = .ok (.if_icmp .ge 26, 3) := dk_162 0 26 (dk_at dksX7_laysAside_1 14 rfl rfl)
theorem dX7_laysAside_41 : decode cX7_laysAside 41 = .ok (.aload_n 0, 1) := dk_42 (dk_at dksX7_laysAside_1 17 rfl rfl)
theorem dX7_laysAside_42 : decode cX7_laysAside 42 = .ok (.getfield 48, 3) := dk_180 0 48 (dk_at dksX7_laysAside_1 18 rfl rfl)
theorem dX7_laysAside_45 : decode cX7_laysAside 45 = .ok (.bipush 100, 2) := dk_16 100 (dk_at dksX7_laysAside_1 21 rfl rfl)
theorem dX7_laysAside_47 : decode cX7_laysAside 47 = .ok (.iload_n 1, 1) := dk_27 (dk_at dksX7_laysAside_1 23 rfl rfl)
theorem dX7_laysAside_48 : decode cX7_laysAside 48 = .ok (.imul, 1) := dk_104 (dk_at dksX7_laysAside_2 0 rfl rfl)
theorem dX7_laysAside_49 : decode cX7_laysAside 49 = .ok (.iload_n 2, 1) := dk_28 (dk_at dksX7_laysAside_2 1 rfl rfl)
theorem dX7_laysAside_50 : decode cX7_laysAside 50 = .ok (.iadd, 1) := dk_96 (dk_at dksX7_laysAside_2 2 rfl rfl)
theorem dX7_laysAside_51 : decode cX7_laysAside 51 = .ok (.aload_n 0, 1) := dk_42 (dk_at dksX7_laysAside_2 3 rfl rfl)
theorem dX7_laysAside_52 : decode cX7_laysAside 52 = .ok (.getfield 31, 3) := dk_180 0 31 (dk_at dksX7_laysAside_2 4 rfl rfl)
theorem dX7_laysAside_55 : decode cX7_laysAside 55 = .ok (.iload_n 2, 1) := dk_28 (dk_at dksX7_laysAside_2 7 rfl rfl)
theorem dX7_laysAside_56 : decode cX7_laysAside 56 = .ok (.laload, 1) := dk_47 (dk_at dksX7_laysAside_2 8 rfl rfl)
theorem dX7_laysAside_57 : decode cX7_laysAside 57 = .ok (.lastore, 1) := dk_80 (dk_at dksX7_laysAside_2 9 rfl rfl)
theorem dX7_laysAside_58 : decode cX7_laysAside 58 = .ok (.iinc 2 1, 3) := dk_132 2 1 (dk_at dksX7_laysAside_2 10 rfl rfl)
theorem dX7_laysAside_61 : decode cX7_laysAside 61 = .ok (.goto (-26), 3) := dk_167 255 230 (dk_at dksX7_laysAside_2 13 rfl rfl)
theorem dX7_laysAside_64 : decode cX7_laysAside 64 = .ok (.return_, 1) := dk_177 (dk_at dksX7_laysAside_2 16 rfl rfl)
abbrev cX7_laysUndone : ByteArray := prog_32_method_134_code
def yX7_laysUndone : MethodName := ⟨RX7, "laysUndone", "([I[J[I[J)V"⟩
def dkwX7_laysUndone_2 : List UInt8 := [132, 5, 1, 167, 255, 236, 177]
abbrev dktX7_laysUndone_2 : List UInt8 := dkwX7_laysUndone_2 ++ []
def dkwX7_laysUndone_1 : List UInt8 := [167, 255, 237, 3, 54, 5, 21, 5, 17, 6, 64, 162, 0, 18, 44, 21, 5, 25, 4, 21, 5, 47, 80]
abbrev dktX7_laysUndone_1 : List UInt8 := dkwX7_laysUndone_1 ++ dktX7_laysUndone_2
def dkwX7_laysUndone_0 : List UInt8 := [3, 54, 5, 21, 5, 17, 23, 32, 162, 0, 17, 43, 21, 5, 45, 21, 5, 46, 79, 132, 5, 1]
abbrev dktX7_laysUndone_0 : List UInt8 := dkwX7_laysUndone_0 ++ dktX7_laysUndone_1
theorem dksX7_laysUndone_0 : cX7_laysUndone.data.toList.drop 0 = dktX7_laysUndone_0 := by decide +kernel
theorem dksX7_laysUndone_1 : cX7_laysUndone.data.toList.drop 22 = dktX7_laysUndone_1 := dk_seg dksX7_laysUndone_0 22 rfl rfl
theorem dksX7_laysUndone_2 : cX7_laysUndone.data.toList.drop 45 = dktX7_laysUndone_2 := dk_seg dksX7_laysUndone_1 23 rfl rfl
theorem dX7_laysUndone_0 : decode cX7_laysUndone 0 = .ok (.iconst 0, 1) := dk_3 (dk_at dksX7_laysUndone_0 0 rfl rfl)
theorem dX7_laysUndone_1 : decode cX7_laysUndone 1 = .ok (.istore 5, 2) := dk_54 5 (dk_at dksX7_laysUndone_0 1 rfl rfl)
theorem dX7_laysUndone_3 : decode cX7_laysUndone 3 = .ok (.iload 5, 2) := dk_21 5 (dk_at dksX7_laysUndone_0 3 rfl rfl)
theorem dX7_laysUndone_5 : decode cX7_laysUndone 5 = .ok (.sipush 5920, 3) := dk_17 23 32 (dk_at dksX7_laysUndone_0 5 rfl rfl)
theorem dX7_laysUndone_8 : decode cX7_laysUndone 8 = .ok (.if_icmp .ge 17, 3) := dk_162 0 17 (dk_at dksX7_laysUndone_0 8 rfl rfl)
theorem dX7_laysUndone_11 : decode cX7_laysUndone 11 = .ok (.aload_n 1, 1) := dk_43 (dk_at dksX7_laysUndone_0 11 rfl rfl)
theorem dX7_laysUndone_12 : decode cX7_laysUndone 12 = .ok (.iload 5, 2) := dk_21 5 (dk_at dksX7_laysUndone_0 12 rfl rfl)
theorem dX7_laysUndone_14 : decode cX7_laysUndone 14 = .ok (.aload_n 3, 1) := dk_45 (dk_at dksX7_laysUndone_0 14 rfl rfl)
theorem dX7_laysUndone_15 : decode cX7_laysUndone 15 = .ok (.iload 5, 2) := dk_21 5 (dk_at dksX7_laysUndone_0 15 rfl rfl)
theorem dX7_laysUndone_17 : decode cX7_laysUndone 17 = .ok (.iaload, 1) := dk_46 (dk_at dksX7_laysUndone_0 17 rfl rfl)
theorem dX7_laysUndone_18 : decode cX7_laysUndone 18 = .ok (.iastore, 1) := dk_79 (dk_at dksX7_laysUndone_0 18 rfl rfl)
theorem dX7_laysUndone_19 : decode cX7_laysUndone 19 = .ok (.iinc 5 1, 3) := dk_132 5 1 (dk_at dksX7_laysUndone_0 19 rfl rfl)
theorem dX7_laysUndone_22 : decode cX7_laysUndone 22 = .ok (.goto (-19), 3) := dk_167 255 237 (dk_at dksX7_laysUndone_1 0 rfl rfl)
theorem dX7_laysUndone_25 : decode cX7_laysUndone 25 = .ok (.iconst 0, 1) := dk_3 (dk_at dksX7_laysUndone_1 3 rfl rfl)
theorem dX7_laysUndone_26 : decode cX7_laysUndone 26 = .ok (.istore 5, 2) := dk_54 5 (dk_at dksX7_laysUndone_1 4 rfl rfl)
theorem dX7_laysUndone_28 : decode cX7_laysUndone 28 = .ok (.iload 5, 2) := dk_21 5 (dk_at dksX7_laysUndone_1 6 rfl rfl)
theorem dX7_laysUndone_30 : decode cX7_laysUndone 30 = .ok (.sipush 1600, 3) := dk_17 6 64 (dk_at dksX7_laysUndone_1 8 rfl rfl)
theorem dX7_laysUndone_33 : decode cX7_laysUndone 33 = .ok (.if_icmp .ge 18, 3) := dk_162 0 18 (dk_at dksX7_laysUndone_1 11 rfl rfl)
theorem dX7_laysUndone_36 : decode cX7_laysUndone 36 = .ok (.aload_n 2, 1) := dk_44 (dk_at dksX7_laysUndone_1 14 rfl rfl)
theorem dX7_laysUndone_37 : decode cX7_laysUndone 37 = .ok (.iload 5, 2) := dk_21 5 (dk_at dksX7_laysUndone_1 15 rfl rfl)
theorem dX7_laysUndone_39 : decode cX7_laysUndone 39 = .ok (.aload 4, 2) := dk_25 4 (dk_at dksX7_laysUndone_1 17 rfl rfl)
theorem dX7_laysUndone_41 : decode cX7_laysUndone 41 = .ok (.iload 5, 2) := dk_21 5 (dk_at dksX7_laysUndone_1 19 rfl rfl)
theorem dX7_laysUndone_43 : decode cX7_laysUndone 43 = .ok (.laload, 1) := dk_47 (dk_at dksX7_laysUndone_1 21 rfl rfl)
theorem dX7_laysUndone_44 : decode cX7_laysUndone 44 = .ok (.lastore, 1) := dk_80 (dk_at dksX7_laysUndone_1 22 rfl rfl)
theorem dX7_laysUndone_45 : decode cX7_laysUndone 45 = .ok (.iinc 5 1, 3) := dk_132 5 1 (dk_at dksX7_laysUndone_2 0 rfl rfl)
theorem dX7_laysUndone_48 : decode cX7_laysUndone 48 = .ok (.goto (-20), 3) := dk_167 255 236 (dk_at dksX7_laysUndone_2 3 rfl rfl)
theorem dX7_laysUndone_51 : decode cX7_laysUndone 51 = .ok (.return_, 1) := dk_177 (dk_at dksX7_laysUndone_2 6 rfl rfl)
abbrev cX7_runs : ByteArray := prog_32_method_139_code
def yX7_runs : MethodName := ⟨RX7, "runs", "(I)Z"⟩
def dkwX7_runs_3 : List UInt8 := [132, 4, 1, 167, 255, 205, 42, 29, 181, 2, 3, 4, 172]
abbrev dktX7_runs_3 : List UInt8 := dkwX7_runs_3 ++ []
def dkwX7_runs_2 : List UInt8 := [153, 0, 10, 42, 182, 2, 32, 156, 0, 5, 3, 172, 42, 89, 180, 1, 74, 4, 96, 181, 1, 74]
abbrev dktX7_runs_2 : List UInt8 := dkwX7_runs_2 ++ dktX7_runs_3
def dkwX7_runs_1 : List UInt8 := [162, 0, 51, 42, 27, 4, 182, 2, 28, 42, 180, 2, 21, 154, 0, 6, 167, 0, 29, 42, 180, 2, 15]
abbrev dktX7_runs_1 : List UInt8 := dkwX7_runs_1 ++ dktX7_runs_2
def dkwX7_runs_0 : List UInt8 := [42, 27, 3, 182, 2, 28, 42, 180, 2, 18, 61, 42, 180, 1, 38, 62, 3, 54, 4, 21, 4, 28]
abbrev dktX7_runs_0 : List UInt8 := dkwX7_runs_0 ++ dktX7_runs_1
theorem dksX7_runs_0 : cX7_runs.data.toList.drop 0 = dktX7_runs_0 := by decide +kernel
theorem dksX7_runs_1 : cX7_runs.data.toList.drop 22 = dktX7_runs_1 := dk_seg dksX7_runs_0 22 rfl rfl
theorem dksX7_runs_2 : cX7_runs.data.toList.drop 45 = dktX7_runs_2 := dk_seg dksX7_runs_1 23 rfl rfl
theorem dksX7_runs_3 : cX7_runs.data.toList.drop 67 = dktX7_runs_3 := dk_seg dksX7_runs_2 22 rfl rfl
theorem dX7_runs_0 : decode cX7_runs 0 = .ok (.aload_n 0, 1) := dk_42 (dk_at dksX7_runs_0 0 rfl rfl)
theorem dX7_runs_1 : decode cX7_runs 1 = .ok (.iload_n 1, 1) := dk_27 (dk_at dksX7_runs_0 1 rfl rfl)
theorem dX7_runs_2 : decode cX7_runs 2 = .ok (.iconst 0, 1) := dk_3 (dk_at dksX7_runs_0 2 rfl rfl)
theorem dX7_runs_3 : decode cX7_runs 3 = .ok (.invokevirtual 540, 3) := dk_182 2 28 (dk_at dksX7_runs_0 3 rfl rfl)
theorem dX7_runs_6 : decode cX7_runs 6 = .ok (.aload_n 0, 1) := dk_42 (dk_at dksX7_runs_0 6 rfl rfl)
theorem dX7_runs_7 : decode cX7_runs 7 = .ok (.getfield 530, 3) := dk_180 2 18 (dk_at dksX7_runs_0 7 rfl rfl)
theorem dX7_runs_10 : decode cX7_runs 10 = .ok (.istore_n 2, 1) := dk_61 (dk_at dksX7_runs_0 10 rfl rfl)
theorem dX7_runs_11 : decode cX7_runs 11 = .ok (.aload_n 0, 1) := dk_42 (dk_at dksX7_runs_0 11 rfl rfl)
theorem dX7_runs_12 : decode cX7_runs 12 = .ok (.getfield 294, 3) := dk_180 1 38 (dk_at dksX7_runs_0 12 rfl rfl)
theorem dX7_runs_15 : decode cX7_runs 15 = .ok (.istore_n 3, 1) := dk_62 (dk_at dksX7_runs_0 15 rfl rfl)
theorem dX7_runs_16 : decode cX7_runs 16 = .ok (.iconst 0, 1) := dk_3 (dk_at dksX7_runs_0 16 rfl rfl)
theorem dX7_runs_17 : decode cX7_runs 17 = .ok (.istore 4, 2) := dk_54 4 (dk_at dksX7_runs_0 17 rfl rfl)
theorem dX7_runs_19 : decode cX7_runs 19 = .ok (.iload 4, 2) := dk_21 4 (dk_at dksX7_runs_0 19 rfl rfl)
theorem dX7_runs_21 : decode cX7_runs 21 = .ok (.iload_n 2, 1) := dk_28 (dk_at dksX7_runs_0 21 rfl rfl)
theorem dX7_runs_22 : decode cX7_runs 22 = .ok (.if_icmp .ge 51, 3) := dk_162 0 51 (dk_at dksX7_runs_1 0 rfl rfl)
theorem dX7_runs_25 : decode cX7_runs 25 = .ok (.aload_n 0, 1) := dk_42 (dk_at dksX7_runs_1 3 rfl rfl)
theorem dX7_runs_26 : decode cX7_runs 26 = .ok (.iload_n 1, 1) := dk_27 (dk_at dksX7_runs_1 4 rfl rfl)
theorem dX7_runs_27 : decode cX7_runs 27 = .ok (.iconst 1, 1) := dk_4 (dk_at dksX7_runs_1 5 rfl rfl)
theorem dX7_runs_28 : decode cX7_runs 28 = .ok (.invokevirtual 540, 3) := dk_182 2 28 (dk_at dksX7_runs_1 6 rfl rfl)
theorem dX7_runs_31 : decode cX7_runs 31 = .ok (.aload_n 0, 1) := dk_42 (dk_at dksX7_runs_1 9 rfl rfl)
theorem dX7_runs_32 : decode cX7_runs 32 = .ok (.getfield 533, 3) := dk_180 2 21 (dk_at dksX7_runs_1 10 rfl rfl)
theorem dX7_runs_35 : decode cX7_runs 35 = .ok (.ifCond .ne 6, 3) := dk_154 0 6 (dk_at dksX7_runs_1 13 rfl rfl)
theorem dX7_runs_38 : decode cX7_runs 38 = .ok (.goto 29, 3) := dk_167 0 29 (dk_at dksX7_runs_1 16 rfl rfl)
theorem dX7_runs_41 : decode cX7_runs 41 = .ok (.aload_n 0, 1) := dk_42 (dk_at dksX7_runs_1 19 rfl rfl)
theorem dX7_runs_42 : decode cX7_runs 42 = .ok (.getfield 527, 3) := dk_180 2 15 (dk_at dksX7_runs_1 20 rfl rfl)
theorem dX7_runs_45 : decode cX7_runs 45 = .ok (.ifCond .eq 10, 3) := dk_153 0 10 (dk_at dksX7_runs_2 0 rfl rfl)
theorem dX7_runs_48 : decode cX7_runs 48 = .ok (.aload_n 0, 1) := dk_42 (dk_at dksX7_runs_2 3 rfl rfl)
theorem dX7_runs_49 : decode cX7_runs 49 = .ok (.invokevirtual 544, 3) := dk_182 2 32 (dk_at dksX7_runs_2 4 rfl rfl)
theorem dX7_runs_52 : decode cX7_runs 52 = .ok (.ifCond .ge 5, 3) := dk_156 0 5 (dk_at dksX7_runs_2 7 rfl rfl)
theorem dX7_runs_55 : decode cX7_runs 55 = .ok (.iconst 0, 1) := dk_3 (dk_at dksX7_runs_2 10 rfl rfl)
theorem dX7_runs_56 : decode cX7_runs 56 = .ok (.ireturn, 1) := dk_172 (dk_at dksX7_runs_2 11 rfl rfl)
theorem dX7_runs_57 : decode cX7_runs 57 = .ok (.aload_n 0, 1) := dk_42 (dk_at dksX7_runs_2 12 rfl rfl)
theorem dX7_runs_58 : decode cX7_runs 58 = .ok (.dup, 1) := dk_89 (dk_at dksX7_runs_2 13 rfl rfl)
theorem dX7_runs_59 : decode cX7_runs 59 = .ok (.getfield 330, 3) := dk_180 1 74 (dk_at dksX7_runs_2 14 rfl rfl)
theorem dX7_runs_62 : decode cX7_runs 62 = .ok (.iconst 1, 1) := dk_4 (dk_at dksX7_runs_2 17 rfl rfl)
theorem dX7_runs_63 : decode cX7_runs 63 = .ok (.iadd, 1) := dk_96 (dk_at dksX7_runs_2 18 rfl rfl)
theorem dX7_runs_64 : decode cX7_runs 64 = .ok (.putfield 330, 3) := dk_181 1 74 (dk_at dksX7_runs_2 19 rfl rfl)
theorem dX7_runs_67 : decode cX7_runs 67 = .ok (.iinc 4 1, 3) := dk_132 4 1 (dk_at dksX7_runs_3 0 rfl rfl)
theorem dX7_runs_70 : decode cX7_runs 70 = .ok (.goto (-51), 3) := dk_167 255 205 (dk_at dksX7_runs_3 3 rfl rfl)
theorem dX7_runs_73 : decode cX7_runs 73 = .ok (.aload_n 0, 1) := dk_42 (dk_at dksX7_runs_3 6 rfl rfl)
theorem dX7_runs_74 : decode cX7_runs 74 = .ok (.iload_n 3, 1) := dk_29 (dk_at dksX7_runs_3 7 rfl rfl)
theorem dX7_runs_75 : decode cX7_runs 75 = .ok (.putfield 515, 3) := dk_181 2 3 (dk_at dksX7_runs_3 8 rfl rfl)
theorem dX7_runs_78 : decode cX7_runs 78 = .ok (.iconst 1, 1) := dk_4 (dk_at dksX7_runs_3 11 rfl rfl)
theorem dX7_runs_79 : decode cX7_runs 79 = .ok (.ireturn, 1) := dk_172 (dk_at dksX7_runs_3 12 rfl rfl)
abbrev cX7_goesAlong : ByteArray := prog_32_method_136_code
def yX7_goesAlong : MethodName := ⟨RX7, "goesAlong", "(IZ)V"⟩
def dkwX7_goesAlong_10 : List UInt8 := [181, 2, 21, 42, 89, 180, 1, 38, 4, 96, 181, 1, 38, 177]
abbrev dktX7_goesAlong_10 : List UInt8 := dkwX7_goesAlong_10 ++ []
def dkwX7_goesAlong_9 : List UInt8 := [3, 181, 2, 21, 42, 42, 180, 2, 21, 153, 0, 14, 42, 180, 1, 48, 154, 0, 7, 4, 167, 0, 4, 3]
abbrev dktX7_goesAlong_9 : List UInt8 := dkwX7_goesAlong_9 ++ dktX7_goesAlong_10
def dkwX7_goesAlong_8 : List UInt8 := [181, 1, 48, 42, 42, 6, 182, 1, 62, 153, 0, 11, 42, 28, 182, 1, 89, 153, 0, 7, 4, 167, 0, 4]
abbrev dktX7_goesAlong_8 : List UInt8 := dkwX7_goesAlong_8 ++ dktX7_goesAlong_9
def dkwX7_goesAlong_7 : List UInt8 := [17, 12, 123, 42, 180, 1, 38, 96, 46, 181, 2, 18, 42, 89, 180, 1, 38, 4, 96, 181, 1, 38, 42, 3]
abbrev dktX7_goesAlong_7 : List UInt8 := dkwX7_goesAlong_7 ++ dktX7_goesAlong_8
def dkwX7_goesAlong_6 : List UInt8 := [167, 255, 192, 42, 4, 181, 2, 18, 42, 16, 23, 182, 1, 62, 153, 0, 30, 42, 42, 180, 0, 28]
abbrev dktX7_goesAlong_6 : List UInt8 := dkwX7_goesAlong_6 ++ dktX7_goesAlong_7
def dkwX7_goesAlong_5 : List UInt8 := [180, 2, 15, 153, 0, 14, 42, 180, 1, 48, 154, 0, 7, 4, 167, 0, 4, 3, 181, 2, 15, 132, 4, 1]
abbrev dktX7_goesAlong_5 : List UInt8 := dkwX7_goesAlong_5 ++ dktX7_goesAlong_6
def dkwX7_goesAlong_4 : List UInt8 := [4, 96, 181, 1, 38, 42, 3, 181, 1, 48, 42, 180, 0, 133, 21, 4, 42, 28, 182, 1, 65, 80, 42, 42]
abbrev dktX7_goesAlong_4 : List UInt8 := dkwX7_goesAlong_4 ++ dktX7_goesAlong_5
def dkwX7_goesAlong_3 : List UInt8 := [167, 0, 4, 5, 62, 3, 54, 4, 21, 4, 29, 162, 0, 64, 21, 4, 158, 0, 13, 42, 89, 180, 1, 38]
abbrev dktX7_goesAlong_3 : List UInt8 := dkwX7_goesAlong_3 ++ dktX7_goesAlong_4
def dkwX7_goesAlong_2 : List UInt8 := [180, 2, 12, 16, 22, 160, 0, 7, 3, 167, 0, 17, 42, 180, 2, 12, 16, 19, 160, 0, 7, 6]
abbrev dktX7_goesAlong_2 : List UInt8 := dkwX7_goesAlong_2 ++ dktX7_goesAlong_3
def dkwX7_goesAlong_1 : List UInt8 := [182, 1, 41, 181, 2, 12, 42, 89, 180, 1, 38, 4, 96, 181, 1, 38, 42, 4, 181, 2, 15, 42]
abbrev dktX7_goesAlong_1 : List UInt8 := dkwX7_goesAlong_1 ++ dktX7_goesAlong_2
def dkwX7_goesAlong_0 : List UInt8 := [42, 4, 181, 1, 68, 42, 27, 181, 1, 35, 42, 42, 180, 2, 3, 181, 1, 38, 42, 42, 42, 180, 1, 38]
abbrev dktX7_goesAlong_0 : List UInt8 := dkwX7_goesAlong_0 ++ dktX7_goesAlong_1
theorem dksX7_goesAlong_0 : cX7_goesAlong.data.toList.drop 0 = dktX7_goesAlong_0 := by decide +kernel
theorem dksX7_goesAlong_1 : cX7_goesAlong.data.toList.drop 24 = dktX7_goesAlong_1 := dk_seg dksX7_goesAlong_0 24 rfl rfl
theorem dksX7_goesAlong_2 : cX7_goesAlong.data.toList.drop 46 = dktX7_goesAlong_2 := dk_seg dksX7_goesAlong_1 22 rfl rfl
theorem dksX7_goesAlong_3 : cX7_goesAlong.data.toList.drop 68 = dktX7_goesAlong_3 := dk_seg dksX7_goesAlong_2 22 rfl rfl
theorem dksX7_goesAlong_4 : cX7_goesAlong.data.toList.drop 92 = dktX7_goesAlong_4 := dk_seg dksX7_goesAlong_3 24 rfl rfl
theorem dksX7_goesAlong_5 : cX7_goesAlong.data.toList.drop 116 = dktX7_goesAlong_5 := dk_seg dksX7_goesAlong_4 24 rfl rfl
theorem dksX7_goesAlong_6 : cX7_goesAlong.data.toList.drop 140 = dktX7_goesAlong_6 := dk_seg dksX7_goesAlong_5 24 rfl rfl
theorem dksX7_goesAlong_7 : cX7_goesAlong.data.toList.drop 162 = dktX7_goesAlong_7 := dk_seg dksX7_goesAlong_6 22 rfl rfl
theorem dksX7_goesAlong_8 : cX7_goesAlong.data.toList.drop 186 = dktX7_goesAlong_8 := dk_seg dksX7_goesAlong_7 24 rfl rfl
theorem dksX7_goesAlong_9 : cX7_goesAlong.data.toList.drop 210 = dktX7_goesAlong_9 := dk_seg dksX7_goesAlong_8 24 rfl rfl
theorem dksX7_goesAlong_10 : cX7_goesAlong.data.toList.drop 234 = dktX7_goesAlong_10 := dk_seg dksX7_goesAlong_9 24 rfl rfl
theorem dX7_goesAlong_0 : decode cX7_goesAlong 0 = .ok (.aload_n 0, 1) := dk_42 (dk_at dksX7_goesAlong_0 0 rfl rfl)
theorem dX7_goesAlong_1 : decode cX7_goesAlong 1 = .ok (.iconst 1, 1) := dk_4 (dk_at dksX7_goesAlong_0 1 rfl rfl)
theorem dX7_goesAlong_2 : decode cX7_goesAlong 2 = .ok (.putfield 324, 3) := dk_181 1 68 (dk_at dksX7_goesAlong_0 2 rfl rfl)
theorem dX7_goesAlong_5 : decode cX7_goesAlong 5 = .ok (.aload_n 0, 1) := dk_42 (dk_at dksX7_goesAlong_0 5 rfl rfl)
theorem dX7_goesAlong_6 : decode cX7_goesAlong 6 = .ok (.iload_n 1, 1) := dk_27 (dk_at dksX7_goesAlong_0 6 rfl rfl)
theorem dX7_goesAlong_7 : decode cX7_goesAlong 7 = .ok (.putfield 291, 3) := dk_181 1 35 (dk_at dksX7_goesAlong_0 7 rfl rfl)
theorem dX7_goesAlong_10 : decode cX7_goesAlong 10 = .ok (.aload_n 0, 1) := dk_42 (dk_at dksX7_goesAlong_0 10 rfl rfl)
theorem dX7_goesAlong_11 : decode cX7_goesAlong 11 = .ok (.aload_n 0, 1) := dk_42 (dk_at dksX7_goesAlong_0 11 rfl rfl)
theorem dX7_goesAlong_12 : decode cX7_goesAlong 12 = .ok (.getfield 515, 3) := dk_180 2 3 (dk_at dksX7_goesAlong_0 12 rfl rfl)
theorem dX7_goesAlong_15 : decode cX7_goesAlong 15 = .ok (.putfield 294, 3) := dk_181 1 38 (dk_at dksX7_goesAlong_0 15 rfl rfl)
theorem dX7_goesAlong_18 : decode cX7_goesAlong 18 = .ok (.aload_n 0, 1) := dk_42 (dk_at dksX7_goesAlong_0 18 rfl rfl)
theorem dX7_goesAlong_19 : decode cX7_goesAlong 19 = .ok (.aload_n 0, 1) := dk_42 (dk_at dksX7_goesAlong_0 19 rfl rfl)
theorem dX7_goesAlong_20 : decode cX7_goesAlong 20 = .ok (.aload_n 0, 1) := dk_42 (dk_at dksX7_goesAlong_0 20 rfl rfl)
theorem dX7_goesAlong_21 : decode cX7_goesAlong 21 = .ok (.getfield 294, 3) := dk_180 1 38 (dk_at dksX7_goesAlong_0 21 rfl rfl)
theorem dX7_goesAlong_24 : decode cX7_goesAlong 24 = .ok (.invokevirtual 297, 3) := dk_182 1 41 (dk_at dksX7_goesAlong_1 0 rfl rfl)
theorem dX7_goesAlong_27 : decode cX7_goesAlong 27 = .ok (.putfield 524, 3) := dk_181 2 12 (dk_at dksX7_goesAlong_1 3 rfl rfl)
theorem dX7_goesAlong_30 : decode cX7_goesAlong 30 = .ok (.aload_n 0, 1) := dk_42 (dk_at dksX7_goesAlong_1 6 rfl rfl)
theorem dX7_goesAlong_31 : decode cX7_goesAlong 31 = .ok (.dup, 1) := dk_89 (dk_at dksX7_goesAlong_1 7 rfl rfl)
theorem dX7_goesAlong_32 : decode cX7_goesAlong 32 = .ok (.getfield 294, 3) := dk_180 1 38 (dk_at dksX7_goesAlong_1 8 rfl rfl)
theorem dX7_goesAlong_35 : decode cX7_goesAlong 35 = .ok (.iconst 1, 1) := dk_4 (dk_at dksX7_goesAlong_1 11 rfl rfl)
theorem dX7_goesAlong_36 : decode cX7_goesAlong 36 = .ok (.iadd, 1) := dk_96 (dk_at dksX7_goesAlong_1 12 rfl rfl)
theorem dX7_goesAlong_37 : decode cX7_goesAlong 37 = .ok (.putfield 294, 3) := dk_181 1 38 (dk_at dksX7_goesAlong_1 13 rfl rfl)
theorem dX7_goesAlong_40 : decode cX7_goesAlong 40 = .ok (.aload_n 0, 1) := dk_42 (dk_at dksX7_goesAlong_1 16 rfl rfl)
theorem dX7_goesAlong_41 : decode cX7_goesAlong 41 = .ok (.iconst 1, 1) := dk_4 (dk_at dksX7_goesAlong_1 17 rfl rfl)
theorem dX7_goesAlong_42 : decode cX7_goesAlong 42 = .ok (.putfield 527, 3) := dk_181 2 15 (dk_at dksX7_goesAlong_1 18 rfl rfl)
theorem dX7_goesAlong_45 : decode cX7_goesAlong 45 = .ok (.aload_n 0, 1) := dk_42 (dk_at dksX7_goesAlong_1 21 rfl rfl)
theorem dX7_goesAlong_46 : decode cX7_goesAlong 46 = .ok (.getfield 524, 3) := dk_180 2 12 (dk_at dksX7_goesAlong_2 0 rfl rfl)
theorem dX7_goesAlong_49 : decode cX7_goesAlong 49 = .ok (.bipush 22, 2) := dk_16 22 (dk_at dksX7_goesAlong_2 3 rfl rfl)
theorem dX7_goesAlong_51 : decode cX7_goesAlong 51 = .ok (.if_icmp .ne 7, 3) := dk_160 0 7 (dk_at dksX7_goesAlong_2 5 rfl rfl)
theorem dX7_goesAlong_54 : decode cX7_goesAlong 54 = .ok (.iconst 0, 1) := dk_3 (dk_at dksX7_goesAlong_2 8 rfl rfl)
theorem dX7_goesAlong_55 : decode cX7_goesAlong 55 = .ok (.goto 17, 3) := dk_167 0 17 (dk_at dksX7_goesAlong_2 9 rfl rfl)
theorem dX7_goesAlong_58 : decode cX7_goesAlong 58 = .ok (.aload_n 0, 1) := dk_42 (dk_at dksX7_goesAlong_2 12 rfl rfl)
theorem dX7_goesAlong_59 : decode cX7_goesAlong 59 = .ok (.getfield 524, 3) := dk_180 2 12 (dk_at dksX7_goesAlong_2 13 rfl rfl)
theorem dX7_goesAlong_62 : decode cX7_goesAlong 62 = .ok (.bipush 19, 2) := dk_16 19 (dk_at dksX7_goesAlong_2 16 rfl rfl)
theorem dX7_goesAlong_64 : decode cX7_goesAlong 64 = .ok (.if_icmp .ne 7, 3) := dk_160 0 7 (dk_at dksX7_goesAlong_2 18 rfl rfl)
theorem dX7_goesAlong_67 : decode cX7_goesAlong 67 = .ok (.iconst 3, 1) := dk_6 (dk_at dksX7_goesAlong_2 21 rfl rfl)
theorem dX7_goesAlong_68 : decode cX7_goesAlong 68 = .ok (.goto 4, 3) := dk_167 0 4 (dk_at dksX7_goesAlong_3 0 rfl rfl)
theorem dX7_goesAlong_71 : decode cX7_goesAlong 71 = .ok (.iconst 2, 1) := dk_5 (dk_at dksX7_goesAlong_3 3 rfl rfl)
theorem dX7_goesAlong_72 : decode cX7_goesAlong 72 = .ok (.istore_n 3, 1) := dk_62 (dk_at dksX7_goesAlong_3 4 rfl rfl)
theorem dX7_goesAlong_73 : decode cX7_goesAlong 73 = .ok (.iconst 0, 1) := dk_3 (dk_at dksX7_goesAlong_3 5 rfl rfl)
theorem dX7_goesAlong_74 : decode cX7_goesAlong 74 = .ok (.istore 4, 2) := dk_54 4 (dk_at dksX7_goesAlong_3 6 rfl rfl)
theorem dX7_goesAlong_76 : decode cX7_goesAlong 76 = .ok (.iload 4, 2) := dk_21 4 (dk_at dksX7_goesAlong_3 8 rfl rfl)
theorem dX7_goesAlong_78 : decode cX7_goesAlong 78 = .ok (.iload_n 3, 1) := dk_29 (dk_at dksX7_goesAlong_3 10 rfl rfl)
theorem dX7_goesAlong_79 : decode cX7_goesAlong 79 = .ok (.if_icmp .ge 64, 3) := dk_162 0 64 (dk_at dksX7_goesAlong_3 11 rfl rfl)
theorem dX7_goesAlong_82 : decode cX7_goesAlong 82 = .ok (.iload 4, 2) := dk_21 4 (dk_at dksX7_goesAlong_3 14 rfl rfl)
theorem dX7_goesAlong_84 : decode cX7_goesAlong 84 = .ok (.ifCond .le 13, 3) := dk_158 0 13 (dk_at dksX7_goesAlong_3 16 rfl rfl)
theorem dX7_goesAlong_87 : decode cX7_goesAlong 87 = .ok (.aload_n 0, 1) := dk_42 (dk_at dksX7_goesAlong_3 19 rfl rfl)
theorem dX7_goesAlong_88 : decode cX7_goesAlong 88 = .ok (.dup, 1) := dk_89 (dk_at dksX7_goesAlong_3 20 rfl rfl)
theorem dX7_goesAlong_89 : decode cX7_goesAlong 89 = .ok (.getfield 294, 3) := dk_180 1 38 (dk_at dksX7_goesAlong_3 21 rfl rfl)
theorem dX7_goesAlong_92 : decode cX7_goesAlong 92 = .ok (.iconst 1, 1) := dk_4 (dk_at dksX7_goesAlong_4 0 rfl rfl)
theorem dX7_goesAlong_93 : decode cX7_goesAlong 93 = .ok (.iadd, 1) := dk_96 (dk_at dksX7_goesAlong_4 1 rfl rfl)
theorem dX7_goesAlong_94 : decode cX7_goesAlong 94 = .ok (.putfield 294, 3) := dk_181 1 38 (dk_at dksX7_goesAlong_4 2 rfl rfl)
theorem dX7_goesAlong_97 : decode cX7_goesAlong 97 = .ok (.aload_n 0, 1) := dk_42 (dk_at dksX7_goesAlong_4 5 rfl rfl)
theorem dX7_goesAlong_98 : decode cX7_goesAlong 98 = .ok (.iconst 0, 1) := dk_3 (dk_at dksX7_goesAlong_4 6 rfl rfl)
theorem dX7_goesAlong_99 : decode cX7_goesAlong 99 = .ok (.putfield 304, 3) := dk_181 1 48 (dk_at dksX7_goesAlong_4 7 rfl rfl)
theorem dX7_goesAlong_102 : decode cX7_goesAlong 102 = .ok (.aload_n 0, 1) := dk_42 (dk_at dksX7_goesAlong_4 10 rfl rfl)
theorem dX7_goesAlong_103 : decode cX7_goesAlong 103 = .ok (.getfield 133, 3) := dk_180 0 133 (dk_at dksX7_goesAlong_4 11 rfl rfl)
theorem dX7_goesAlong_106 : decode cX7_goesAlong 106 = .ok (.iload 4, 2) := dk_21 4 (dk_at dksX7_goesAlong_4 14 rfl rfl)
theorem dX7_goesAlong_108 : decode cX7_goesAlong 108 = .ok (.aload_n 0, 1) := dk_42 (dk_at dksX7_goesAlong_4 16 rfl rfl)
theorem dX7_goesAlong_109 : decode cX7_goesAlong 109 = .ok (.iload_n 2, 1) := dk_28 (dk_at dksX7_goesAlong_4 17 rfl rfl)
theorem dX7_goesAlong_110 : decode cX7_goesAlong 110 = .ok (.invokevirtual 321, 3) := dk_182 1 65 (dk_at dksX7_goesAlong_4 18 rfl rfl)
theorem dX7_goesAlong_113 : decode cX7_goesAlong 113 = .ok (.lastore, 1) := dk_80 (dk_at dksX7_goesAlong_4 21 rfl rfl)
theorem dX7_goesAlong_114 : decode cX7_goesAlong 114 = .ok (.aload_n 0, 1) := dk_42 (dk_at dksX7_goesAlong_4 22 rfl rfl)
theorem dX7_goesAlong_115 : decode cX7_goesAlong 115 = .ok (.aload_n 0, 1) := dk_42 (dk_at dksX7_goesAlong_4 23 rfl rfl)
theorem dX7_goesAlong_116 : decode cX7_goesAlong 116 = .ok (.getfield 527, 3) := dk_180 2 15 (dk_at dksX7_goesAlong_5 0 rfl rfl)
theorem dX7_goesAlong_119 : decode cX7_goesAlong 119 = .ok (.ifCond .eq 14, 3) := dk_153 0 14 (dk_at dksX7_goesAlong_5 3 rfl rfl)
theorem dX7_goesAlong_122 : decode cX7_goesAlong 122 = .ok (.aload_n 0, 1) := dk_42 (dk_at dksX7_goesAlong_5 6 rfl rfl)
theorem dX7_goesAlong_123 : decode cX7_goesAlong 123 = .ok (.getfield 304, 3) := dk_180 1 48 (dk_at dksX7_goesAlong_5 7 rfl rfl)
theorem dX7_goesAlong_126 : decode cX7_goesAlong 126 = .ok (.ifCond .ne 7, 3) := dk_154 0 7 (dk_at dksX7_goesAlong_5 10 rfl rfl)
theorem dX7_goesAlong_129 : decode cX7_goesAlong 129 = .ok (.iconst 1, 1) := dk_4 (dk_at dksX7_goesAlong_5 13 rfl rfl)
theorem dX7_goesAlong_130 : decode cX7_goesAlong 130 = .ok (.goto 4, 3) := dk_167 0 4 (dk_at dksX7_goesAlong_5 14 rfl rfl)
theorem dX7_goesAlong_133 : decode cX7_goesAlong 133 = .ok (.iconst 0, 1) := dk_3 (dk_at dksX7_goesAlong_5 17 rfl rfl)
theorem dX7_goesAlong_134 : decode cX7_goesAlong 134 = .ok (.putfield 527, 3) := dk_181 2 15 (dk_at dksX7_goesAlong_5 18 rfl rfl)
theorem dX7_goesAlong_137 : decode cX7_goesAlong 137 = .ok (.iinc 4 1, 3) := dk_132 4 1 (dk_at dksX7_goesAlong_5 21 rfl rfl)
theorem dX7_goesAlong_140 : decode cX7_goesAlong 140 = .ok (.goto (-64), 3) := dk_167 255 192 (dk_at dksX7_goesAlong_6 0 rfl rfl)
theorem dX7_goesAlong_143 : decode cX7_goesAlong 143 = .ok (.aload_n 0, 1) := dk_42 (dk_at dksX7_goesAlong_6 3 rfl rfl)
theorem dX7_goesAlong_144 : decode cX7_goesAlong 144 = .ok (.iconst 1, 1) := dk_4 (dk_at dksX7_goesAlong_6 4 rfl rfl)
theorem dX7_goesAlong_145 : decode cX7_goesAlong 145 = .ok (.putfield 530, 3) := dk_181 2 18 (dk_at dksX7_goesAlong_6 5 rfl rfl)
theorem dX7_goesAlong_148 : decode cX7_goesAlong 148 = .ok (.aload_n 0, 1) := dk_42 (dk_at dksX7_goesAlong_6 8 rfl rfl)
theorem dX7_goesAlong_149 : decode cX7_goesAlong 149 = .ok (.bipush 23, 2) := dk_16 23 (dk_at dksX7_goesAlong_6 9 rfl rfl)
theorem dX7_goesAlong_151 : decode cX7_goesAlong 151 = .ok (.invokevirtual 318, 3) := dk_182 1 62 (dk_at dksX7_goesAlong_6 11 rfl rfl)
theorem dX7_goesAlong_154 : decode cX7_goesAlong 154 = .ok (.ifCond .eq 30, 3) := dk_153 0 30 (dk_at dksX7_goesAlong_6 14 rfl rfl)
theorem dX7_goesAlong_157 : decode cX7_goesAlong 157 = .ok (.aload_n 0, 1) := dk_42 (dk_at dksX7_goesAlong_6 17 rfl rfl)
theorem dX7_goesAlong_158 : decode cX7_goesAlong 158 = .ok (.aload_n 0, 1) := dk_42 (dk_at dksX7_goesAlong_6 18 rfl rfl)
theorem dX7_goesAlong_159 : decode cX7_goesAlong 159 = .ok (.getfield 28, 3) := dk_180 0 28 (dk_at dksX7_goesAlong_6 19 rfl rfl)
theorem dX7_goesAlong_162 : decode cX7_goesAlong 162 = .ok (.sipush 3195, 3) := dk_17 12 123 (dk_at dksX7_goesAlong_7 0 rfl rfl)
theorem dX7_goesAlong_165 : decode cX7_goesAlong 165 = .ok (.aload_n 0, 1) := dk_42 (dk_at dksX7_goesAlong_7 3 rfl rfl)
theorem dX7_goesAlong_166 : decode cX7_goesAlong 166 = .ok (.getfield 294, 3) := dk_180 1 38 (dk_at dksX7_goesAlong_7 4 rfl rfl)
theorem dX7_goesAlong_169 : decode cX7_goesAlong 169 = .ok (.iadd, 1) := dk_96 (dk_at dksX7_goesAlong_7 7 rfl rfl)
theorem dX7_goesAlong_170 : decode cX7_goesAlong 170 = .ok (.iaload, 1) := dk_46 (dk_at dksX7_goesAlong_7 8 rfl rfl)
theorem dX7_goesAlong_171 : decode cX7_goesAlong 171 = .ok (.putfield 530, 3) := dk_181 2 18 (dk_at dksX7_goesAlong_7 9 rfl rfl)
theorem dX7_goesAlong_174 : decode cX7_goesAlong 174 = .ok (.aload_n 0, 1) := dk_42 (dk_at dksX7_goesAlong_7 12 rfl rfl)
theorem dX7_goesAlong_175 : decode cX7_goesAlong 175 = .ok (.dup, 1) := dk_89 (dk_at dksX7_goesAlong_7 13 rfl rfl)
theorem dX7_goesAlong_176 : decode cX7_goesAlong 176 = .ok (.getfield 294, 3) := dk_180 1 38 (dk_at dksX7_goesAlong_7 14 rfl rfl)
theorem dX7_goesAlong_179 : decode cX7_goesAlong 179 = .ok (.iconst 1, 1) := dk_4 (dk_at dksX7_goesAlong_7 17 rfl rfl)
theorem dX7_goesAlong_180 : decode cX7_goesAlong 180 = .ok (.iadd, 1) := dk_96 (dk_at dksX7_goesAlong_7 18 rfl rfl)
theorem dX7_goesAlong_181 : decode cX7_goesAlong 181 = .ok (.putfield 294, 3) := dk_181 1 38 (dk_at dksX7_goesAlong_7 19 rfl rfl)
theorem dX7_goesAlong_184 : decode cX7_goesAlong 184 = .ok (.aload_n 0, 1) := dk_42 (dk_at dksX7_goesAlong_7 22 rfl rfl)
theorem dX7_goesAlong_185 : decode cX7_goesAlong 185 = .ok (.iconst 0, 1) := dk_3 (dk_at dksX7_goesAlong_7 23 rfl rfl)
theorem dX7_goesAlong_186 : decode cX7_goesAlong 186 = .ok (.putfield 304, 3) := dk_181 1 48 (dk_at dksX7_goesAlong_8 0 rfl rfl)
theorem dX7_goesAlong_189 : decode cX7_goesAlong 189 = .ok (.aload_n 0, 1) := dk_42 (dk_at dksX7_goesAlong_8 3 rfl rfl)
theorem dX7_goesAlong_190 : decode cX7_goesAlong 190 = .ok (.aload_n 0, 1) := dk_42 (dk_at dksX7_goesAlong_8 4 rfl rfl)
theorem dX7_goesAlong_191 : decode cX7_goesAlong 191 = .ok (.iconst 3, 1) := dk_6 (dk_at dksX7_goesAlong_8 5 rfl rfl)
theorem dX7_goesAlong_192 : decode cX7_goesAlong 192 = .ok (.invokevirtual 318, 3) := dk_182 1 62 (dk_at dksX7_goesAlong_8 6 rfl rfl)
theorem dX7_goesAlong_195 : decode cX7_goesAlong 195 = .ok (.ifCond .eq 11, 3) := dk_153 0 11 (dk_at dksX7_goesAlong_8 9 rfl rfl)
theorem dX7_goesAlong_198 : decode cX7_goesAlong 198 = .ok (.aload_n 0, 1) := dk_42 (dk_at dksX7_goesAlong_8 12 rfl rfl)
theorem dX7_goesAlong_199 : decode cX7_goesAlong 199 = .ok (.iload_n 2, 1) := dk_28 (dk_at dksX7_goesAlong_8 13 rfl rfl)
theorem dX7_goesAlong_200 : decode cX7_goesAlong 200 = .ok (.invokevirtual 345, 3) := dk_182 1 89 (dk_at dksX7_goesAlong_8 14 rfl rfl)
theorem dX7_goesAlong_203 : decode cX7_goesAlong 203 = .ok (.ifCond .eq 7, 3) := dk_153 0 7 (dk_at dksX7_goesAlong_8 17 rfl rfl)
theorem dX7_goesAlong_206 : decode cX7_goesAlong 206 = .ok (.iconst 1, 1) := dk_4 (dk_at dksX7_goesAlong_8 20 rfl rfl)
theorem dX7_goesAlong_207 : decode cX7_goesAlong 207 = .ok (.goto 4, 3) := dk_167 0 4 (dk_at dksX7_goesAlong_8 21 rfl rfl)
theorem dX7_goesAlong_210 : decode cX7_goesAlong 210 = .ok (.iconst 0, 1) := dk_3 (dk_at dksX7_goesAlong_9 0 rfl rfl)
theorem dX7_goesAlong_211 : decode cX7_goesAlong 211 = .ok (.putfield 533, 3) := dk_181 2 21 (dk_at dksX7_goesAlong_9 1 rfl rfl)
theorem dX7_goesAlong_214 : decode cX7_goesAlong 214 = .ok (.aload_n 0, 1) := dk_42 (dk_at dksX7_goesAlong_9 4 rfl rfl)
theorem dX7_goesAlong_215 : decode cX7_goesAlong 215 = .ok (.aload_n 0, 1) := dk_42 (dk_at dksX7_goesAlong_9 5 rfl rfl)
theorem dX7_goesAlong_216 : decode cX7_goesAlong 216 = .ok (.getfield 533, 3) := dk_180 2 21 (dk_at dksX7_goesAlong_9 6 rfl rfl)
theorem dX7_goesAlong_219 : decode cX7_goesAlong 219 = .ok (.ifCond .eq 14, 3) := dk_153 0 14 (dk_at dksX7_goesAlong_9 9 rfl rfl)
theorem dX7_goesAlong_222 : decode cX7_goesAlong 222 = .ok (.aload_n 0, 1) := dk_42 (dk_at dksX7_goesAlong_9 12 rfl rfl)
theorem dX7_goesAlong_223 : decode cX7_goesAlong 223 = .ok (.getfield 304, 3) := dk_180 1 48 (dk_at dksX7_goesAlong_9 13 rfl rfl)
theorem dX7_goesAlong_226 : decode cX7_goesAlong 226 = .ok (.ifCond .ne 7, 3) := dk_154 0 7 (dk_at dksX7_goesAlong_9 16 rfl rfl)
theorem dX7_goesAlong_229 : decode cX7_goesAlong 229 = .ok (.iconst 1, 1) := dk_4 (dk_at dksX7_goesAlong_9 19 rfl rfl)
theorem dX7_goesAlong_230 : decode cX7_goesAlong 230 = .ok (.goto 4, 3) := dk_167 0 4 (dk_at dksX7_goesAlong_9 20 rfl rfl)
theorem dX7_goesAlong_233 : decode cX7_goesAlong 233 = .ok (.iconst 0, 1) := dk_3 (dk_at dksX7_goesAlong_9 23 rfl rfl)
theorem dX7_goesAlong_234 : decode cX7_goesAlong 234 = .ok (.putfield 533, 3) := dk_181 2 21 (dk_at dksX7_goesAlong_10 0 rfl rfl)
theorem dX7_goesAlong_237 : decode cX7_goesAlong 237 = .ok (.aload_n 0, 1) := dk_42 (dk_at dksX7_goesAlong_10 3 rfl rfl)
theorem dX7_goesAlong_238 : decode cX7_goesAlong 238 = .ok (.dup, 1) := dk_89 (dk_at dksX7_goesAlong_10 4 rfl rfl)
theorem dX7_goesAlong_239 : decode cX7_goesAlong 239 = .ok (.getfield 294, 3) := dk_180 1 38 (dk_at dksX7_goesAlong_10 5 rfl rfl)
theorem dX7_goesAlong_242 : decode cX7_goesAlong 242 = .ok (.iconst 1, 1) := dk_4 (dk_at dksX7_goesAlong_10 8 rfl rfl)
theorem dX7_goesAlong_243 : decode cX7_goesAlong 243 = .ok (.iadd, 1) := dk_96 (dk_at dksX7_goesAlong_10 9 rfl rfl)
theorem dX7_goesAlong_244 : decode cX7_goesAlong 244 = .ok (.putfield 294, 3) := dk_181 1 38 (dk_at dksX7_goesAlong_10 10 rfl rfl)
theorem dX7_goesAlong_247 : decode cX7_goesAlong 247 = .ok (.return_, 1) := dk_177 (dk_at dksX7_goesAlong_10 13 rfl rfl)
abbrev cX7_obeys : ByteArray := prog_32_method_138_code
def yX7_obeys : MethodName := ⟨RX7, "obeys", "()I"⟩
def dkwX7_obeys_6 : List UInt8 := [156, 0, 10, 42, 180, 1, 77, 167, 0, 4, 27, 181, 1, 77, 27, 172]
abbrev dktX7_obeys_6 : List UInt8 := dkwX7_obeys_6 ++ []
def dkwX7_obeys_5 : List UInt8 := [42, 180, 0, 133, 3, 47, 184, 2, 24, 42, 180, 0, 133, 4, 47, 184, 2, 24, 182, 1, 139, 60, 42, 27]
abbrev dktX7_obeys_5 : List UInt8 := dkwX7_obeys_5 ++ dktX7_obeys_6
def dkwX7_obeys_4 : List UInt8 := [180, 0, 133, 3, 47, 184, 2, 24, 182, 1, 133, 167, 0, 34, 42, 42, 180, 0, 133, 5, 47, 184, 2, 24]
abbrev dktX7_obeys_4 : List UInt8 := dkwX7_obeys_4 ++ dktX7_obeys_5
def dkwX7_obeys_3 : List UInt8 := [182, 1, 145, 172, 42, 180, 2, 12, 16, 17, 160, 0, 28, 42, 42, 180, 0, 133, 4, 47, 184, 2, 24, 42]
abbrev dktX7_obeys_3 : List UInt8 := dkwX7_obeys_3 ++ dktX7_obeys_4
def dkwX7_obeys_2 : List UInt8 := [42, 42, 180, 0, 133, 4, 47, 184, 2, 24, 42, 180, 0, 133, 3, 47, 184, 2, 24, 182, 1, 142, 172, 42]
abbrev dktX7_obeys_2 : List UInt8 := dkwX7_obeys_2 ++ dktX7_obeys_3
def dkwX7_obeys_1 : List UInt8 := [171, 0, 0, 0, 0, 0, 0, 56, 0, 0, 0, 2, 0, 0, 0, 21, 0, 0, 0, 28, 0, 0, 0, 22, 0, 0, 0, 51]
abbrev dktX7_obeys_1 : List UInt8 := dkwX7_obeys_1 ++ dktX7_obeys_2
def dkwX7_obeys_0 : List UInt8 := [42, 180, 2, 12]
abbrev dktX7_obeys_0 : List UInt8 := dkwX7_obeys_0 ++ dktX7_obeys_1
theorem dksX7_obeys_0 : cX7_obeys.data.toList.drop 0 = dktX7_obeys_0 := by decide +kernel
theorem dksX7_obeys_1 : cX7_obeys.data.toList.drop 4 = dktX7_obeys_1 := dk_seg dksX7_obeys_0 4 rfl rfl
theorem dksX7_obeys_2 : cX7_obeys.data.toList.drop 32 = dktX7_obeys_2 := dk_seg dksX7_obeys_1 28 rfl rfl
theorem dksX7_obeys_3 : cX7_obeys.data.toList.drop 56 = dktX7_obeys_3 := dk_seg dksX7_obeys_2 24 rfl rfl
theorem dksX7_obeys_4 : cX7_obeys.data.toList.drop 80 = dktX7_obeys_4 := dk_seg dksX7_obeys_3 24 rfl rfl
theorem dksX7_obeys_5 : cX7_obeys.data.toList.drop 104 = dktX7_obeys_5 := dk_seg dksX7_obeys_4 24 rfl rfl
theorem dksX7_obeys_6 : cX7_obeys.data.toList.drop 128 = dktX7_obeys_6 := dk_seg dksX7_obeys_5 24 rfl rfl
theorem dX7_obeys_0 : decode cX7_obeys 0 = .ok (.aload_n 0, 1) := dk_42 (dk_at dksX7_obeys_0 0 rfl rfl)
theorem dX7_obeys_1 : decode cX7_obeys 1 = .ok (.getfield 524, 3) := dk_180 2 12 (dk_at dksX7_obeys_0 1 rfl rfl)
theorem dX7_obeys_4 : decode cX7_obeys 4 = .ok (.lookupswitch 56 #[(21, 28), (22, 51)], 28) := by decide +kernel
theorem dX7_obeys_32 : decode cX7_obeys 32 = .ok (.aload_n 0, 1) := dk_42 (dk_at dksX7_obeys_2 0 rfl rfl)
theorem dX7_obeys_33 : decode cX7_obeys 33 = .ok (.aload_n 0, 1) := dk_42 (dk_at dksX7_obeys_2 1 rfl rfl)
theorem dX7_obeys_34 : decode cX7_obeys 34 = .ok (.getfield 133, 3) := dk_180 0 133 (dk_at dksX7_obeys_2 2 rfl rfl)
theorem dX7_obeys_37 : decode cX7_obeys 37 = .ok (.iconst 1, 1) := dk_4 (dk_at dksX7_obeys_2 5 rfl rfl)
theorem dX7_obeys_38 : decode cX7_obeys 38 = .ok (.laload, 1) := dk_47 (dk_at dksX7_obeys_2 6 rfl rfl)
theorem dX7_obeys_39 : decode cX7_obeys 39 = .ok (.invokestatic 536, 3) := dk_184 2 24 (dk_at dksX7_obeys_2 7 rfl rfl)
theorem dX7_obeys_42 : decode cX7_obeys 42 = .ok (.aload_n 0, 1) := dk_42 (dk_at dksX7_obeys_2 10 rfl rfl)
theorem dX7_obeys_43 : decode cX7_obeys 43 = .ok (.getfield 133, 3) := dk_180 0 133 (dk_at dksX7_obeys_2 11 rfl rfl)
theorem dX7_obeys_46 : decode cX7_obeys 46 = .ok (.iconst 0, 1) := dk_3 (dk_at dksX7_obeys_2 14 rfl rfl)
theorem dX7_obeys_47 : decode cX7_obeys 47 = .ok (.laload, 1) := dk_47 (dk_at dksX7_obeys_2 15 rfl rfl)
theorem dX7_obeys_48 : decode cX7_obeys 48 = .ok (.invokestatic 536, 3) := dk_184 2 24 (dk_at dksX7_obeys_2 16 rfl rfl)
theorem dX7_obeys_51 : decode cX7_obeys 51 = .ok (.invokevirtual 398, 3) := dk_182 1 142 (dk_at dksX7_obeys_2 19 rfl rfl)
theorem dX7_obeys_54 : decode cX7_obeys 54 = .ok (.ireturn, 1) := dk_172 (dk_at dksX7_obeys_2 22 rfl rfl)
theorem dX7_obeys_55 : decode cX7_obeys 55 = .ok (.aload_n 0, 1) := dk_42 (dk_at dksX7_obeys_2 23 rfl rfl)
theorem dX7_obeys_56 : decode cX7_obeys 56 = .ok (.invokevirtual 401, 3) := dk_182 1 145 (dk_at dksX7_obeys_3 0 rfl rfl)
theorem dX7_obeys_59 : decode cX7_obeys 59 = .ok (.ireturn, 1) := dk_172 (dk_at dksX7_obeys_3 3 rfl rfl)
theorem dX7_obeys_60 : decode cX7_obeys 60 = .ok (.aload_n 0, 1) := dk_42 (dk_at dksX7_obeys_3 4 rfl rfl)
theorem dX7_obeys_61 : decode cX7_obeys 61 = .ok (.getfield 524, 3) := dk_180 2 12 (dk_at dksX7_obeys_3 5 rfl rfl)
theorem dX7_obeys_64 : decode cX7_obeys 64 = .ok (.bipush 17, 2) := dk_16 17 (dk_at dksX7_obeys_3 8 rfl rfl)
theorem dX7_obeys_66 : decode cX7_obeys 66 = .ok (.if_icmp .ne 28, 3) := dk_160 0 28 (dk_at dksX7_obeys_3 10 rfl rfl)
theorem dX7_obeys_69 : decode cX7_obeys 69 = .ok (.aload_n 0, 1) := dk_42 (dk_at dksX7_obeys_3 13 rfl rfl)
theorem dX7_obeys_70 : decode cX7_obeys 70 = .ok (.aload_n 0, 1) := dk_42 (dk_at dksX7_obeys_3 14 rfl rfl)
theorem dX7_obeys_71 : decode cX7_obeys 71 = .ok (.getfield 133, 3) := dk_180 0 133 (dk_at dksX7_obeys_3 15 rfl rfl)
theorem dX7_obeys_74 : decode cX7_obeys 74 = .ok (.iconst 1, 1) := dk_4 (dk_at dksX7_obeys_3 18 rfl rfl)
theorem dX7_obeys_75 : decode cX7_obeys 75 = .ok (.laload, 1) := dk_47 (dk_at dksX7_obeys_3 19 rfl rfl)
theorem dX7_obeys_76 : decode cX7_obeys 76 = .ok (.invokestatic 536, 3) := dk_184 2 24 (dk_at dksX7_obeys_3 20 rfl rfl)
theorem dX7_obeys_79 : decode cX7_obeys 79 = .ok (.aload_n 0, 1) := dk_42 (dk_at dksX7_obeys_3 23 rfl rfl)
theorem dX7_obeys_80 : decode cX7_obeys 80 = .ok (.getfield 133, 3) := dk_180 0 133 (dk_at dksX7_obeys_4 0 rfl rfl)
theorem dX7_obeys_83 : decode cX7_obeys 83 = .ok (.iconst 0, 1) := dk_3 (dk_at dksX7_obeys_4 3 rfl rfl)
theorem dX7_obeys_84 : decode cX7_obeys 84 = .ok (.laload, 1) := dk_47 (dk_at dksX7_obeys_4 4 rfl rfl)
theorem dX7_obeys_85 : decode cX7_obeys 85 = .ok (.invokestatic 536, 3) := dk_184 2 24 (dk_at dksX7_obeys_4 5 rfl rfl)
theorem dX7_obeys_88 : decode cX7_obeys 88 = .ok (.invokevirtual 389, 3) := dk_182 1 133 (dk_at dksX7_obeys_4 8 rfl rfl)
theorem dX7_obeys_91 : decode cX7_obeys 91 = .ok (.goto 34, 3) := dk_167 0 34 (dk_at dksX7_obeys_4 11 rfl rfl)
theorem dX7_obeys_94 : decode cX7_obeys 94 = .ok (.aload_n 0, 1) := dk_42 (dk_at dksX7_obeys_4 14 rfl rfl)
theorem dX7_obeys_95 : decode cX7_obeys 95 = .ok (.aload_n 0, 1) := dk_42 (dk_at dksX7_obeys_4 15 rfl rfl)
theorem dX7_obeys_96 : decode cX7_obeys 96 = .ok (.getfield 133, 3) := dk_180 0 133 (dk_at dksX7_obeys_4 16 rfl rfl)
theorem dX7_obeys_99 : decode cX7_obeys 99 = .ok (.iconst 2, 1) := dk_5 (dk_at dksX7_obeys_4 19 rfl rfl)
theorem dX7_obeys_100 : decode cX7_obeys 100 = .ok (.laload, 1) := dk_47 (dk_at dksX7_obeys_4 20 rfl rfl)
theorem dX7_obeys_101 : decode cX7_obeys 101 = .ok (.invokestatic 536, 3) := dk_184 2 24 (dk_at dksX7_obeys_4 21 rfl rfl)
theorem dX7_obeys_104 : decode cX7_obeys 104 = .ok (.aload_n 0, 1) := dk_42 (dk_at dksX7_obeys_5 0 rfl rfl)
theorem dX7_obeys_105 : decode cX7_obeys 105 = .ok (.getfield 133, 3) := dk_180 0 133 (dk_at dksX7_obeys_5 1 rfl rfl)
theorem dX7_obeys_108 : decode cX7_obeys 108 = .ok (.iconst 0, 1) := dk_3 (dk_at dksX7_obeys_5 4 rfl rfl)
theorem dX7_obeys_109 : decode cX7_obeys 109 = .ok (.laload, 1) := dk_47 (dk_at dksX7_obeys_5 5 rfl rfl)
theorem dX7_obeys_110 : decode cX7_obeys 110 = .ok (.invokestatic 536, 3) := dk_184 2 24 (dk_at dksX7_obeys_5 6 rfl rfl)
theorem dX7_obeys_113 : decode cX7_obeys 113 = .ok (.aload_n 0, 1) := dk_42 (dk_at dksX7_obeys_5 9 rfl rfl)
theorem dX7_obeys_114 : decode cX7_obeys 114 = .ok (.getfield 133, 3) := dk_180 0 133 (dk_at dksX7_obeys_5 10 rfl rfl)
theorem dX7_obeys_117 : decode cX7_obeys 117 = .ok (.iconst 1, 1) := dk_4 (dk_at dksX7_obeys_5 13 rfl rfl)
theorem dX7_obeys_118 : decode cX7_obeys 118 = .ok (.laload, 1) := dk_47 (dk_at dksX7_obeys_5 14 rfl rfl)
theorem dX7_obeys_119 : decode cX7_obeys 119 = .ok (.invokestatic 536, 3) := dk_184 2 24 (dk_at dksX7_obeys_5 15 rfl rfl)
theorem dX7_obeys_122 : decode cX7_obeys 122 = .ok (.invokevirtual 395, 3) := dk_182 1 139 (dk_at dksX7_obeys_5 18 rfl rfl)
theorem dX7_obeys_125 : decode cX7_obeys 125 = .ok (.istore_n 1, 1) := dk_60 (dk_at dksX7_obeys_5 21 rfl rfl)
theorem dX7_obeys_126 : decode cX7_obeys 126 = .ok (.aload_n 0, 1) := dk_42 (dk_at dksX7_obeys_5 22 rfl rfl)
theorem dX7_obeys_127 : decode cX7_obeys 127 = .ok (.iload_n 1, 1) := dk_27 (dk_at dksX7_obeys_5 23 rfl rfl)
theorem dX7_obeys_128 : decode cX7_obeys 128 = .ok (.ifCond .ge 10, 3) := dk_156 0 10 (dk_at dksX7_obeys_6 0 rfl rfl)
theorem dX7_obeys_131 : decode cX7_obeys 131 = .ok (.aload_n 0, 1) := dk_42 (dk_at dksX7_obeys_6 3 rfl rfl)
theorem dX7_obeys_132 : decode cX7_obeys 132 = .ok (.getfield 333, 3) := dk_180 1 77 (dk_at dksX7_obeys_6 4 rfl rfl)
theorem dX7_obeys_135 : decode cX7_obeys 135 = .ok (.goto 4, 3) := dk_167 0 4 (dk_at dksX7_obeys_6 7 rfl rfl)
theorem dX7_obeys_138 : decode cX7_obeys 138 = .ok (.iload_n 1, 1) := dk_27 (dk_at dksX7_obeys_6 10 rfl rfl)
theorem dX7_obeys_139 : decode cX7_obeys 139 = .ok (.putfield 333, 3) := dk_181 1 77 (dk_at dksX7_obeys_6 11 rfl rfl)
theorem dX7_obeys_142 : decode cX7_obeys 142 = .ok (.iload_n 1, 1) := dk_27 (dk_at dksX7_obeys_6 14 rfl rfl)
theorem dX7_obeys_143 : decode cX7_obeys 143 = .ok (.ireturn, 1) := dk_172 (dk_at dksX7_obeys_6 15 rfl rfl)
abbrev cX7_small : ByteArray := prog_32_method_137_code
def yX7_small : MethodName := ⟨RX7, "small", "(J)I"⟩
def dkwX7_small_0 : List UInt8 := [30, 9, 148, 155, 0, 11, 30, 20, 1, 113, 148, 158, 0, 7, 2, 167, 0, 5, 30, 136, 172]
abbrev dktX7_small_0 : List UInt8 := dkwX7_small_0 ++ []
theorem dksX7_small_0 : cX7_small.data.toList.drop 0 = dktX7_small_0 := by decide +kernel
theorem dX7_small_0 : decode cX7_small 0 = .ok (.lload_n 0, 1) := dk_30 (dk_at dksX7_small_0 0 rfl rfl)
theorem dX7_small_1 : decode cX7_small 1 = .ok (.lconst 0, 1) := dk_9 (dk_at dksX7_small_0 1 rfl rfl)
theorem dX7_small_2 : decode cX7_small 2 = .ok (.lcmp, 1) := dk_148 (dk_at dksX7_small_0 2 rfl rfl)
theorem dX7_small_3 : decode cX7_small 3 = .ok (.ifCond .lt 11, 3) := dk_155 0 11 (dk_at dksX7_small_0 3 rfl rfl)
theorem dX7_small_6 : decode cX7_small 6 = .ok (.lload_n 0, 1) := dk_30 (dk_at dksX7_small_0 6 rfl rfl)
theorem dX7_small_7 : decode cX7_small 7 = .ok (.ldc2_w 369, 3) := dk_20 1 113 (dk_at dksX7_small_0 7 rfl rfl)
theorem dX7_small_10 : decode cX7_small 10 = .ok (.lcmp, 1) := dk_148 (dk_at dksX7_small_0 10 rfl rfl)
theorem dX7_small_11 : decode cX7_small 11 = .ok (.ifCond .le 7, 3) := dk_158 0 7 (dk_at dksX7_small_0 11 rfl rfl)
theorem dX7_small_14 : decode cX7_small 14 = .ok (.iconst (-1), 1) := dk_2 (dk_at dksX7_small_0 14 rfl rfl)
theorem dX7_small_15 : decode cX7_small 15 = .ok (.goto 5, 3) := dk_167 0 5 (dk_at dksX7_small_0 15 rfl rfl)
theorem dX7_small_18 : decode cX7_small 18 = .ok (.lload_n 0, 1) := dk_30 (dk_at dksX7_small_0 18 rfl rfl)
theorem dX7_small_19 : decode cX7_small 19 = .ok (.l2i, 1) := dk_136 (dk_at dksX7_small_0 19 rfl rfl)
theorem dX7_small_20 : decode cX7_small 20 = .ok (.ireturn, 1) := dk_172 (dk_at dksX7_small_0 20 rfl rfl)
abbrev cX7_takesBack : ByteArray := prog_32_method_14_code
def yX7_takesBack : MethodName := ⟨RX7, "takesBack", "(I)V"⟩
def dkwX7_takesBack_2 : List UInt8 := [180, 0, 48, 16, 100, 27, 104, 28, 96, 47, 80, 132, 2, 1, 167, 255, 230, 177]
abbrev dktX7_takesBack_2 : List UInt8 := dkwX7_takesBack_2 ++ []
def dkwX7_takesBack_1 : List UInt8 := [96, 46, 79, 132, 2, 1, 167, 255, 228, 3, 61, 28, 16, 100, 162, 0, 26, 42, 180, 0, 31, 28, 42]
abbrev dktX7_takesBack_1 : List UInt8 := dkwX7_takesBack_1 ++ dktX7_takesBack_2
def dkwX7_takesBack_0 : List UInt8 := [3, 61, 28, 17, 1, 113, 162, 0, 27, 42, 180, 0, 28, 28, 42, 180, 0, 45, 17, 1, 113, 27, 104, 28]
abbrev dktX7_takesBack_0 : List UInt8 := dkwX7_takesBack_0 ++ dktX7_takesBack_1
theorem dksX7_takesBack_0 : cX7_takesBack.data.toList.drop 0 = dktX7_takesBack_0 := by decide +kernel
theorem dksX7_takesBack_1 : cX7_takesBack.data.toList.drop 24 = dktX7_takesBack_1 := dk_seg dksX7_takesBack_0 24 rfl rfl
theorem dksX7_takesBack_2 : cX7_takesBack.data.toList.drop 47 = dktX7_takesBack_2 := dk_seg dksX7_takesBack_1 23 rfl rfl
theorem dX7_takesBack_0 : decode cX7_takesBack 0 = .ok (.iconst 0, 1) := dk_3 (dk_at dksX7_takesBack_0 0 rfl rfl)
theorem dX7_takesBack_1 : decode cX7_takesBack 1 = .ok (.istore_n 2, 1) := dk_61 (dk_at dksX7_takesBack_0 1 rfl rfl)
theorem dX7_takesBack_2 : decode cX7_takesBack 2 = .ok (.iload_n 2, 1) := dk_28 (dk_at dksX7_takesBack_0 2 rfl rfl)
theorem dX7_takesBack_3 : decode cX7_takesBack 3 = .ok (.sipush 369, 3) := dk_17 1 113 (dk_at dksX7_takesBack_0 3 rfl rfl)
theorem dX7_takesBack_6 : decode cX7_takesBack 6 = .ok (.if_icmp .ge 27, 3) := dk_162 0 27 (dk_at dksX7_takesBack_0 6 rfl rfl)
theorem dX7_takesBack_9 : decode cX7_takesBack 9 = .ok (.aload_n 0, 1) := dk_42 (dk_at dksX7_takesBack_0 9 rfl rfl)
theorem dX7_takesBack_10 : decode cX7_takesBack 10 = .ok (.getfield 28, 3) := dk_180 0 28 (dk_at dksX7_takesBack_0 10 rfl rfl)
theorem dX7_takesBack_13 : decode cX7_takesBack 13 = .ok (.iload_n 2, 1) := dk_28 (dk_at dksX7_takesBack_0 13 rfl rfl)
theorem dX7_takesBack_14 : decode cX7_takesBack 14 = .ok (.aload_n 0, 1) := dk_42 (dk_at dksX7_takesBack_0 14 rfl rfl)
theorem dX7_takesBack_15 : decode cX7_takesBack 15 = .ok (.getfield 45, 3) := dk_180 0 45 (dk_at dksX7_takesBack_0 15 rfl rfl)
theorem dX7_takesBack_18 : decode cX7_takesBack 18 = .ok (.sipush 369, 3) := dk_17 1 113 (dk_at dksX7_takesBack_0 18 rfl rfl)
theorem dX7_takesBack_21 : decode cX7_takesBack 21 = .ok (.iload_n 1, 1) := dk_27 (dk_at dksX7_takesBack_0 21 rfl rfl)
theorem dX7_takesBack_22 : decode cX7_takesBack 22 = .ok (.imul, 1) := dk_104 (dk_at dksX7_takesBack_0 22 rfl rfl)
theorem dX7_takesBack_23 : decode cX7_takesBack 23 = .ok (.iload_n 2, 1) := dk_28 (dk_at dksX7_takesBack_0 23 rfl rfl)
theorem dX7_takesBack_24 : decode cX7_takesBack 24 = .ok (.iadd, 1) := dk_96 (dk_at dksX7_takesBack_1 0 rfl rfl)
theorem dX7_takesBack_25 : decode cX7_takesBack 25 = .ok (.iaload, 1) := dk_46 (dk_at dksX7_takesBack_1 1 rfl rfl)
theorem dX7_takesBack_26 : decode cX7_takesBack 26 = .ok (.iastore, 1) := dk_79 (dk_at dksX7_takesBack_1 2 rfl rfl)
theorem dX7_takesBack_27 : decode cX7_takesBack 27 = .ok (.iinc 2 1, 3) := dk_132 2 1 (dk_at dksX7_takesBack_1 3 rfl rfl)
theorem dX7_takesBack_30 : decode cX7_takesBack 30 = .ok (.goto (-28), 3) := dk_167 255 228 (dk_at dksX7_takesBack_1 6 rfl rfl)
theorem dX7_takesBack_33 : decode cX7_takesBack 33 = .ok (.iconst 0, 1) := dk_3 (dk_at dksX7_takesBack_1 9 rfl rfl)
theorem dX7_takesBack_34 : decode cX7_takesBack 34 = .ok (.istore_n 2, 1) := dk_61 (dk_at dksX7_takesBack_1 10 rfl rfl)
theorem dX7_takesBack_35 : decode cX7_takesBack 35 = .ok (.iload_n 2, 1) := dk_28 (dk_at dksX7_takesBack_1 11 rfl rfl)
theorem dX7_takesBack_36 : decode cX7_takesBack 36 = .ok (.bipush 100, 2) := dk_16 100 (dk_at dksX7_takesBack_1 12 rfl rfl)
theorem dX7_takesBack_38 : decode cX7_takesBack 38 = .ok (.if_icmp .ge 26, 3) := dk_162 0 26 (dk_at dksX7_takesBack_1 14 rfl rfl)
theorem dX7_takesBack_41 : decode cX7_takesBack 41 = .ok (.aload_n 0, 1) := dk_42 (dk_at dksX7_takesBack_1 17 rfl rfl)
theorem dX7_takesBack_42 : decode cX7_takesBack 42 = .ok (.getfield 31, 3) := dk_180 0 31 (dk_at dksX7_takesBack_1 18 rfl rfl)
theorem dX7_takesBack_45 : decode cX7_takesBack 45 = .ok (.iload_n 2, 1) := dk_28 (dk_at dksX7_takesBack_1 21 rfl rfl)
theorem dX7_takesBack_46 : decode cX7_takesBack 46 = .ok (.aload_n 0, 1) := dk_42 (dk_at dksX7_takesBack_1 22 rfl rfl)
theorem dX7_takesBack_47 : decode cX7_takesBack 47 = .ok (.getfield 48, 3) := dk_180 0 48 (dk_at dksX7_takesBack_2 0 rfl rfl)
theorem dX7_takesBack_50 : decode cX7_takesBack 50 = .ok (.bipush 100, 2) := dk_16 100 (dk_at dksX7_takesBack_2 3 rfl rfl)
theorem dX7_takesBack_52 : decode cX7_takesBack 52 = .ok (.iload_n 1, 1) := dk_27 (dk_at dksX7_takesBack_2 5 rfl rfl)
theorem dX7_takesBack_53 : decode cX7_takesBack 53 = .ok (.imul, 1) := dk_104 (dk_at dksX7_takesBack_2 6 rfl rfl)
theorem dX7_takesBack_54 : decode cX7_takesBack 54 = .ok (.iload_n 2, 1) := dk_28 (dk_at dksX7_takesBack_2 7 rfl rfl)
theorem dX7_takesBack_55 : decode cX7_takesBack 55 = .ok (.iadd, 1) := dk_96 (dk_at dksX7_takesBack_2 8 rfl rfl)
theorem dX7_takesBack_56 : decode cX7_takesBack 56 = .ok (.laload, 1) := dk_47 (dk_at dksX7_takesBack_2 9 rfl rfl)
theorem dX7_takesBack_57 : decode cX7_takesBack 57 = .ok (.lastore, 1) := dk_80 (dk_at dksX7_takesBack_2 10 rfl rfl)
theorem dX7_takesBack_58 : decode cX7_takesBack 58 = .ok (.iinc 2 1, 3) := dk_132 2 1 (dk_at dksX7_takesBack_2 11 rfl rfl)
theorem dX7_takesBack_61 : decode cX7_takesBack 61 = .ok (.goto (-26), 3) := dk_167 255 230 (dk_at dksX7_takesBack_2 14 rfl rfl)
theorem dX7_takesBack_64 : decode cX7_takesBack 64 = .ok (.return_, 1) := dk_177 (dk_at dksX7_takesBack_2 17 rfl rfl)
abbrev cX7_months : ByteArray := prog_32_method_142_code
def yX7_months : MethodName := ⟨RX7, "months", "(II)I"⟩
def dkwX7_months_6 : List UInt8 := [182, 0, 14, 172]
abbrev dktX7_months_6 : List UInt8 := dkwX7_months_6 ++ []
def dkwX7_months_5 : List UInt8 := [21, 4, 42, 180, 0, 88, 21, 4, 46, 79, 132, 4, 1, 167, 255, 232, 42, 3, 182, 2, 9, 42, 29]
abbrev dktX7_months_5 : List UInt8 := dkwX7_months_5 ++ dktX7_months_6
def dkwX7_months_4 : List UInt8 := [182, 1, 151, 132, 4, 1, 167, 255, 241, 3, 54, 4, 21, 4, 16, 100, 162, 0, 23, 42, 180, 0, 136]
abbrev dktX7_months_4 : List UInt8 := dkwX7_months_4 ++ dktX7_months_5
def dkwX7_months_3 : List UInt8 := [182, 2, 50, 96, 62, 132, 4, 1, 167, 255, 226, 3, 54, 4, 21, 4, 7, 162, 0, 15, 42, 21, 4]
abbrev dktX7_months_3 : List UInt8 := dkwX7_months_3 ++ dktX7_months_4
def dkwX7_months_2 : List UInt8 := [21, 4, 28, 162, 0, 30, 42, 180, 0, 28, 17, 1, 112, 46, 17, 3, 231, 162, 0, 16, 29, 42]
abbrev dktX7_months_2 : List UInt8 := dkwX7_months_2 ++ dktX7_months_3
def dkwX7_months_1 : List UInt8 := [182, 0, 146, 172, 42, 27, 181, 2, 37, 42, 4, 181, 2, 47, 42, 3, 182, 1, 252, 3, 62, 3, 54, 4]
abbrev dktX7_months_1 : List UInt8 := dkwX7_months_1 ++ dktX7_months_2
def dkwX7_months_0 : List UInt8 := [27, 3, 18, 200, 184, 0, 18, 153, 0, 13, 28, 4, 16, 60, 184, 0, 18, 154, 0, 9, 42, 2]
abbrev dktX7_months_0 : List UInt8 := dkwX7_months_0 ++ dktX7_months_1
theorem dksX7_months_0 : cX7_months.data.toList.drop 0 = dktX7_months_0 := by decide +kernel
theorem dksX7_months_1 : cX7_months.data.toList.drop 22 = dktX7_months_1 := dk_seg dksX7_months_0 22 rfl rfl
theorem dksX7_months_2 : cX7_months.data.toList.drop 46 = dktX7_months_2 := dk_seg dksX7_months_1 24 rfl rfl
theorem dksX7_months_3 : cX7_months.data.toList.drop 68 = dktX7_months_3 := dk_seg dksX7_months_2 22 rfl rfl
theorem dksX7_months_4 : cX7_months.data.toList.drop 91 = dktX7_months_4 := dk_seg dksX7_months_3 23 rfl rfl
theorem dksX7_months_5 : cX7_months.data.toList.drop 114 = dktX7_months_5 := dk_seg dksX7_months_4 23 rfl rfl
theorem dksX7_months_6 : cX7_months.data.toList.drop 137 = dktX7_months_6 := dk_seg dksX7_months_5 23 rfl rfl
theorem dX7_months_0 : decode cX7_months 0 = .ok (.iload_n 1, 1) := dk_27 (dk_at dksX7_months_0 0 rfl rfl)
theorem dX7_months_1 : decode cX7_months 1 = .ok (.iconst 0, 1) := dk_3 (dk_at dksX7_months_0 1 rfl rfl)
theorem dX7_months_2 : decode cX7_months 2 = .ok (.ldc 200, 2) := dk_18 200 (dk_at dksX7_months_0 2 rfl rfl)
theorem dX7_months_4 : decode cX7_months 4 = .ok (.invokestatic 18, 3) := dk_184 0 18 (dk_at dksX7_months_0 4 rfl rfl)
theorem dX7_months_7 : decode cX7_months 7 = .ok (.ifCond .eq 13, 3) := dk_153 0 13 (dk_at dksX7_months_0 7 rfl rfl)
theorem dX7_months_10 : decode cX7_months 10 = .ok (.iload_n 2, 1) := dk_28 (dk_at dksX7_months_0 10 rfl rfl)
theorem dX7_months_11 : decode cX7_months 11 = .ok (.iconst 1, 1) := dk_4 (dk_at dksX7_months_0 11 rfl rfl)
theorem dX7_months_12 : decode cX7_months 12 = .ok (.bipush 60, 2) := dk_16 60 (dk_at dksX7_months_0 12 rfl rfl)
theorem dX7_months_14 : decode cX7_months 14 = .ok (.invokestatic 18, 3) := dk_184 0 18 (dk_at dksX7_months_0 14 rfl rfl)
theorem dX7_months_17 : decode cX7_months 17 = .ok (.ifCond .ne 9, 3) := dk_154 0 9 (dk_at dksX7_months_0 17 rfl rfl)
theorem dX7_months_20 : decode cX7_months 20 = .ok (.aload_n 0, 1) := dk_42 (dk_at dksX7_months_0 20 rfl rfl)
theorem dX7_months_21 : decode cX7_months 21 = .ok (.iconst (-1), 1) := dk_2 (dk_at dksX7_months_0 21 rfl rfl)
theorem dX7_months_22 : decode cX7_months 22 = .ok (.invokevirtual 146, 3) := dk_182 0 146 (dk_at dksX7_months_1 0 rfl rfl)
theorem dX7_months_25 : decode cX7_months 25 = .ok (.ireturn, 1) := dk_172 (dk_at dksX7_months_1 3 rfl rfl)
theorem dX7_months_26 : decode cX7_months 26 = .ok (.aload_n 0, 1) := dk_42 (dk_at dksX7_months_1 4 rfl rfl)
theorem dX7_months_27 : decode cX7_months 27 = .ok (.iload_n 1, 1) := dk_27 (dk_at dksX7_months_1 5 rfl rfl)
theorem dX7_months_28 : decode cX7_months 28 = .ok (.putfield 549, 3) := dk_181 2 37 (dk_at dksX7_months_1 6 rfl rfl)
theorem dX7_months_31 : decode cX7_months 31 = .ok (.aload_n 0, 1) := dk_42 (dk_at dksX7_months_1 9 rfl rfl)
theorem dX7_months_32 : decode cX7_months 32 = .ok (.iconst 1, 1) := dk_4 (dk_at dksX7_months_1 10 rfl rfl)
theorem dX7_months_33 : decode cX7_months 33 = .ok (.putfield 559, 3) := dk_181 2 47 (dk_at dksX7_months_1 11 rfl rfl)
theorem dX7_months_36 : decode cX7_months 36 = .ok (.aload_n 0, 1) := dk_42 (dk_at dksX7_months_1 14 rfl rfl)
theorem dX7_months_37 : decode cX7_months 37 = .ok (.iconst 0, 1) := dk_3 (dk_at dksX7_months_1 15 rfl rfl)
theorem dX7_months_38 : decode cX7_months 38 = .ok (.invokevirtual 508, 3) := dk_182 1 252 (dk_at dksX7_months_1 16 rfl rfl)
theorem dX7_months_41 : decode cX7_months 41 = .ok (.iconst 0, 1) := dk_3 (dk_at dksX7_months_1 19 rfl rfl)
theorem dX7_months_42 : decode cX7_months 42 = .ok (.istore_n 3, 1) := dk_62 (dk_at dksX7_months_1 20 rfl rfl)
theorem dX7_months_43 : decode cX7_months 43 = .ok (.iconst 0, 1) := dk_3 (dk_at dksX7_months_1 21 rfl rfl)
theorem dX7_months_44 : decode cX7_months 44 = .ok (.istore 4, 2) := dk_54 4 (dk_at dksX7_months_1 22 rfl rfl)
theorem dX7_months_46 : decode cX7_months 46 = .ok (.iload 4, 2) := dk_21 4 (dk_at dksX7_months_2 0 rfl rfl)
theorem dX7_months_48 : decode cX7_months 48 = .ok (.iload_n 2, 1) := dk_28 (dk_at dksX7_months_2 2 rfl rfl)
theorem dX7_months_49 : decode cX7_months 49 = .ok (.if_icmp .ge 30, 3) := dk_162 0 30 (dk_at dksX7_months_2 3 rfl rfl)
theorem dX7_months_52 : decode cX7_months 52 = .ok (.aload_n 0, 1) := dk_42 (dk_at dksX7_months_2 6 rfl rfl)
theorem dX7_months_53 : decode cX7_months 53 = .ok (.getfield 28, 3) := dk_180 0 28 (dk_at dksX7_months_2 7 rfl rfl)
theorem dX7_months_56 : decode cX7_months 56 = .ok (.sipush 368, 3) := dk_17 1 112 (dk_at dksX7_months_2 10 rfl rfl)
theorem dX7_months_59 : decode cX7_months 59 = .ok (.iaload, 1) := dk_46 (dk_at dksX7_months_2 13 rfl rfl)
theorem dX7_months_60 : decode cX7_months 60 = .ok (.sipush 999, 3) := dk_17 3 231 (dk_at dksX7_months_2 14 rfl rfl)
theorem dX7_months_63 : decode cX7_months 63 = .ok (.if_icmp .ge 16, 3) := dk_162 0 16 (dk_at dksX7_months_2 17 rfl rfl)
theorem dX7_months_66 : decode cX7_months 66 = .ok (.iload_n 3, 1) := dk_29 (dk_at dksX7_months_2 20 rfl rfl)
theorem dX7_months_67 : decode cX7_months 67 = .ok (.aload_n 0, 1) := dk_42 (dk_at dksX7_months_2 21 rfl rfl)
theorem dX7_months_68 : decode cX7_months 68 = .ok (.invokevirtual 562, 3) := dk_182 2 50 (dk_at dksX7_months_3 0 rfl rfl)
theorem dX7_months_71 : decode cX7_months 71 = .ok (.iadd, 1) := dk_96 (dk_at dksX7_months_3 3 rfl rfl)
theorem dX7_months_72 : decode cX7_months 72 = .ok (.istore_n 3, 1) := dk_62 (dk_at dksX7_months_3 4 rfl rfl)
theorem dX7_months_73 : decode cX7_months 73 = .ok (.iinc 4 1, 3) := dk_132 4 1 (dk_at dksX7_months_3 5 rfl rfl)
theorem dX7_months_76 : decode cX7_months 76 = .ok (.goto (-30), 3) := dk_167 255 226 (dk_at dksX7_months_3 8 rfl rfl)
theorem dX7_months_79 : decode cX7_months 79 = .ok (.iconst 0, 1) := dk_3 (dk_at dksX7_months_3 11 rfl rfl)
theorem dX7_months_80 : decode cX7_months 80 = .ok (.istore 4, 2) := dk_54 4 (dk_at dksX7_months_3 12 rfl rfl)
theorem dX7_months_82 : decode cX7_months 82 = .ok (.iload 4, 2) := dk_21 4 (dk_at dksX7_months_3 14 rfl rfl)
theorem dX7_months_84 : decode cX7_months 84 = .ok (.iconst 4, 1) := dk_7 (dk_at dksX7_months_3 16 rfl rfl)
theorem dX7_months_85 : decode cX7_months 85 = .ok (.if_icmp .ge 15, 3) := dk_162 0 15 (dk_at dksX7_months_3 17 rfl rfl)
theorem dX7_months_88 : decode cX7_months 88 = .ok (.aload_n 0, 1) := dk_42 (dk_at dksX7_months_3 20 rfl rfl)
theorem dX7_months_89 : decode cX7_months 89 = .ok (.iload 4, 2) := dk_21 4 (dk_at dksX7_months_3 21 rfl rfl)
theorem dX7_months_91 : decode cX7_months 91 = .ok (.invokevirtual 407, 3) := dk_182 1 151 (dk_at dksX7_months_4 0 rfl rfl)
theorem dX7_months_94 : decode cX7_months 94 = .ok (.iinc 4 1, 3) := dk_132 4 1 (dk_at dksX7_months_4 3 rfl rfl)
theorem dX7_months_97 : decode cX7_months 97 = .ok (.goto (-15), 3) := dk_167 255 241 (dk_at dksX7_months_4 6 rfl rfl)
theorem dX7_months_100 : decode cX7_months 100 = .ok (.iconst 0, 1) := dk_3 (dk_at dksX7_months_4 9 rfl rfl)
theorem dX7_months_101 : decode cX7_months 101 = .ok (.istore 4, 2) := dk_54 4 (dk_at dksX7_months_4 10 rfl rfl)
theorem dX7_months_103 : decode cX7_months 103 = .ok (.iload 4, 2) := dk_21 4 (dk_at dksX7_months_4 12 rfl rfl)
theorem dX7_months_105 : decode cX7_months 105 = .ok (.bipush 100, 2) := dk_16 100 (dk_at dksX7_months_4 14 rfl rfl)
theorem dX7_months_107 : decode cX7_months 107 = .ok (.if_icmp .ge 23, 3) := dk_162 0 23 (dk_at dksX7_months_4 16 rfl rfl)
theorem dX7_months_110 : decode cX7_months 110 = .ok (.aload_n 0, 1) := dk_42 (dk_at dksX7_months_4 19 rfl rfl)
theorem dX7_months_111 : decode cX7_months 111 = .ok (.getfield 136, 3) := dk_180 0 136 (dk_at dksX7_months_4 20 rfl rfl)
theorem dX7_months_114 : decode cX7_months 114 = .ok (.iload 4, 2) := dk_21 4 (dk_at dksX7_months_5 0 rfl rfl)
theorem dX7_months_116 : decode cX7_months 116 = .ok (.aload_n 0, 1) := dk_42 (dk_at dksX7_months_5 2 rfl rfl)
theorem dX7_months_117 : decode cX7_months 117 = .ok (.getfield 88, 3) := dk_180 0 88 (dk_at dksX7_months_5 3 rfl rfl)
theorem dX7_months_120 : decode cX7_months 120 = .ok (.iload 4, 2) := dk_21 4 (dk_at dksX7_months_5 6 rfl rfl)
theorem dX7_months_122 : decode cX7_months 122 = .ok (.iaload, 1) := dk_46 (dk_at dksX7_months_5 8 rfl rfl)
theorem dX7_months_123 : decode cX7_months 123 = .ok (.iastore, 1) := dk_79 (dk_at dksX7_months_5 9 rfl rfl)
theorem dX7_months_124 : decode cX7_months 124 = .ok (.iinc 4 1, 3) := dk_132 4 1 (dk_at dksX7_months_5 10 rfl rfl)
theorem dX7_months_127 : decode cX7_months 127 = .ok (.goto (-24), 3) := dk_167 255 232 (dk_at dksX7_months_5 13 rfl rfl)
theorem dX7_months_130 : decode cX7_months 130 = .ok (.aload_n 0, 1) := dk_42 (dk_at dksX7_months_5 16 rfl rfl)
theorem dX7_months_131 : decode cX7_months 131 = .ok (.iconst 0, 1) := dk_3 (dk_at dksX7_months_5 17 rfl rfl)
theorem dX7_months_132 : decode cX7_months 132 = .ok (.invokevirtual 521, 3) := dk_182 2 9 (dk_at dksX7_months_5 18 rfl rfl)
theorem dX7_months_135 : decode cX7_months 135 = .ok (.aload_n 0, 1) := dk_42 (dk_at dksX7_months_5 21 rfl rfl)
theorem dX7_months_136 : decode cX7_months 136 = .ok (.iload_n 3, 1) := dk_29 (dk_at dksX7_months_5 22 rfl rfl)
theorem dX7_months_137 : decode cX7_months 137 = .ok (.invokevirtual 14, 3) := dk_182 0 14 (dk_at dksX7_months_6 0 rfl rfl)
theorem dX7_months_140 : decode cX7_months 140 = .ok (.ireturn, 1) := dk_172 (dk_at dksX7_months_6 3 rfl rfl)
abbrev cX7_drawnAct : ByteArray := prog_32_method_141_code
def yX7_drawnAct : MethodName := ⟨RX7, "drawnAct", "()I"⟩
def dkwX7_drawnAct_3 : List UInt8 := [3, 172]
abbrev dktX7_drawnAct_3 : List UInt8 := dkwX7_drawnAct_3 ++ []
def dkwX7_drawnAct_2 : List UInt8 := [42, 182, 1, 129, 87, 167, 0, 19, 42, 27, 3, 28, 182, 0, 159, 158, 0, 9, 42, 27, 28, 182, 1, 126]
abbrev dktX7_drawnAct_2 : List UInt8 := dkwX7_drawnAct_2 ++ dktX7_drawnAct_3
def dkwX7_drawnAct_1 : List UInt8 := [162, 0, 18, 42, 27, 28, 182, 0, 185, 154, 0, 7, 4, 167, 0, 4, 3, 172, 29, 16, 7, 160, 0, 11]
abbrev dktX7_drawnAct_1 : List UInt8 := dkwX7_drawnAct_1 ++ dktX7_drawnAct_2
def dkwX7_drawnAct_0 : List UInt8 := [42, 7, 182, 2, 44, 60, 42, 16, 20, 182, 2, 44, 61, 42, 16, 8, 182, 2, 44, 62, 29, 16, 6]
abbrev dktX7_drawnAct_0 : List UInt8 := dkwX7_drawnAct_0 ++ dktX7_drawnAct_1
theorem dksX7_drawnAct_0 : cX7_drawnAct.data.toList.drop 0 = dktX7_drawnAct_0 := by decide +kernel
theorem dksX7_drawnAct_1 : cX7_drawnAct.data.toList.drop 23 = dktX7_drawnAct_1 := dk_seg dksX7_drawnAct_0 23 rfl rfl
theorem dksX7_drawnAct_2 : cX7_drawnAct.data.toList.drop 47 = dktX7_drawnAct_2 := dk_seg dksX7_drawnAct_1 24 rfl rfl
theorem dksX7_drawnAct_3 : cX7_drawnAct.data.toList.drop 71 = dktX7_drawnAct_3 := dk_seg dksX7_drawnAct_2 24 rfl rfl
theorem dX7_drawnAct_0 : decode cX7_drawnAct 0 = .ok (.aload_n 0, 1) := dk_42 (dk_at dksX7_drawnAct_0 0 rfl rfl)
theorem dX7_drawnAct_1 : decode cX7_drawnAct 1 = .ok (.iconst 4, 1) := dk_7 (dk_at dksX7_drawnAct_0 1 rfl rfl)
theorem dX7_drawnAct_2 : decode cX7_drawnAct 2 = .ok (.invokevirtual 556, 3) := dk_182 2 44 (dk_at dksX7_drawnAct_0 2 rfl rfl)
theorem dX7_drawnAct_5 : decode cX7_drawnAct 5 = .ok (.istore_n 1, 1) := dk_60 (dk_at dksX7_drawnAct_0 5 rfl rfl)
theorem dX7_drawnAct_6 : decode cX7_drawnAct 6 = .ok (.aload_n 0, 1) := dk_42 (dk_at dksX7_drawnAct_0 6 rfl rfl)
theorem dX7_drawnAct_7 : decode cX7_drawnAct 7 = .ok (.bipush 20, 2) := dk_16 20 (dk_at dksX7_drawnAct_0 7 rfl rfl)
theorem dX7_drawnAct_9 : decode cX7_drawnAct 9 = .ok (.invokevirtual 556, 3) := dk_182 2 44 (dk_at dksX7_drawnAct_0 9 rfl rfl)
theorem dX7_drawnAct_12 : decode cX7_drawnAct 12 = .ok (.istore_n 2, 1) := dk_61 (dk_at dksX7_drawnAct_0 12 rfl rfl)
theorem dX7_drawnAct_13 : decode cX7_drawnAct 13 = .ok (.aload_n 0, 1) := dk_42 (dk_at dksX7_drawnAct_0 13 rfl rfl)
theorem dX7_drawnAct_14 : decode cX7_drawnAct 14 = .ok (.bipush 8, 2) := dk_16 8 (dk_at dksX7_drawnAct_0 14 rfl rfl)
theorem dX7_drawnAct_16 : decode cX7_drawnAct 16 = .ok (.invokevirtual 556, 3) := dk_182 2 44 (dk_at dksX7_drawnAct_0 16 rfl rfl)
theorem dX7_drawnAct_19 : decode cX7_drawnAct 19 = .ok (.istore_n 3, 1) := dk_62 (dk_at dksX7_drawnAct_0 19 rfl rfl)
theorem dX7_drawnAct_20 : decode cX7_drawnAct 20 = .ok (.iload_n 3, 1) := dk_29 (dk_at dksX7_drawnAct_0 20 rfl rfl)
theorem dX7_drawnAct_21 : decode cX7_drawnAct 21 = .ok (.bipush 6, 2) := dk_16 6 (dk_at dksX7_drawnAct_0 21 rfl rfl)
theorem dX7_drawnAct_23 : decode cX7_drawnAct 23 = .ok (.if_icmp .ge 18, 3) := dk_162 0 18 (dk_at dksX7_drawnAct_1 0 rfl rfl)
theorem dX7_drawnAct_26 : decode cX7_drawnAct 26 = .ok (.aload_n 0, 1) := dk_42 (dk_at dksX7_drawnAct_1 3 rfl rfl)
theorem dX7_drawnAct_27 : decode cX7_drawnAct 27 = .ok (.iload_n 1, 1) := dk_27 (dk_at dksX7_drawnAct_1 4 rfl rfl)
theorem dX7_drawnAct_28 : decode cX7_drawnAct 28 = .ok (.iload_n 2, 1) := dk_28 (dk_at dksX7_drawnAct_1 5 rfl rfl)
theorem dX7_drawnAct_29 : decode cX7_drawnAct 29 = .ok (.invokevirtual 185, 3) := dk_182 0 185 (dk_at dksX7_drawnAct_1 6 rfl rfl)
theorem dX7_drawnAct_32 : decode cX7_drawnAct 32 = .ok (.ifCond .ne 7, 3) := dk_154 0 7 (dk_at dksX7_drawnAct_1 9 rfl rfl)
theorem dX7_drawnAct_35 : decode cX7_drawnAct 35 = .ok (.iconst 1, 1) := dk_4 (dk_at dksX7_drawnAct_1 12 rfl rfl)
theorem dX7_drawnAct_36 : decode cX7_drawnAct 36 = .ok (.goto 4, 3) := dk_167 0 4 (dk_at dksX7_drawnAct_1 13 rfl rfl)
theorem dX7_drawnAct_39 : decode cX7_drawnAct 39 = .ok (.iconst 0, 1) := dk_3 (dk_at dksX7_drawnAct_1 16 rfl rfl)
theorem dX7_drawnAct_40 : decode cX7_drawnAct 40 = .ok (.ireturn, 1) := dk_172 (dk_at dksX7_drawnAct_1 17 rfl rfl)
theorem dX7_drawnAct_41 : decode cX7_drawnAct 41 = .ok (.iload_n 3, 1) := dk_29 (dk_at dksX7_drawnAct_1 18 rfl rfl)
theorem dX7_drawnAct_42 : decode cX7_drawnAct 42 = .ok (.bipush 7, 2) := dk_16 7 (dk_at dksX7_drawnAct_1 19 rfl rfl)
theorem dX7_drawnAct_44 : decode cX7_drawnAct 44 = .ok (.if_icmp .ne 11, 3) := dk_160 0 11 (dk_at dksX7_drawnAct_1 21 rfl rfl)
theorem dX7_drawnAct_47 : decode cX7_drawnAct 47 = .ok (.aload_n 0, 1) := dk_42 (dk_at dksX7_drawnAct_2 0 rfl rfl)
theorem dX7_drawnAct_48 : decode cX7_drawnAct 48 = .ok (.invokevirtual 385, 3) := dk_182 1 129 (dk_at dksX7_drawnAct_2 1 rfl rfl)
theorem dX7_drawnAct_51 : decode cX7_drawnAct 51 = .ok (.pop, 1) := dk_87 (dk_at dksX7_drawnAct_2 4 rfl rfl)
theorem dX7_drawnAct_52 : decode cX7_drawnAct 52 = .ok (.goto 19, 3) := dk_167 0 19 (dk_at dksX7_drawnAct_2 5 rfl rfl)
theorem dX7_drawnAct_55 : decode cX7_drawnAct 55 = .ok (.aload_n 0, 1) := dk_42 (dk_at dksX7_drawnAct_2 8 rfl rfl)
theorem dX7_drawnAct_56 : decode cX7_drawnAct 56 = .ok (.iload_n 1, 1) := dk_27 (dk_at dksX7_drawnAct_2 9 rfl rfl)
theorem dX7_drawnAct_57 : decode cX7_drawnAct 57 = .ok (.iconst 0, 1) := dk_3 (dk_at dksX7_drawnAct_2 10 rfl rfl)
theorem dX7_drawnAct_58 : decode cX7_drawnAct 58 = .ok (.iload_n 2, 1) := dk_28 (dk_at dksX7_drawnAct_2 11 rfl rfl)
theorem dX7_drawnAct_59 : decode cX7_drawnAct 59 = .ok (.invokevirtual 159, 3) := dk_182 0 159 (dk_at dksX7_drawnAct_2 12 rfl rfl)
theorem dX7_drawnAct_62 : decode cX7_drawnAct 62 = .ok (.ifCond .le 9, 3) := dk_158 0 9 (dk_at dksX7_drawnAct_2 15 rfl rfl)
theorem dX7_drawnAct_65 : decode cX7_drawnAct 65 = .ok (.aload_n 0, 1) := dk_42 (dk_at dksX7_drawnAct_2 18 rfl rfl)
theorem dX7_drawnAct_66 : decode cX7_drawnAct 66 = .ok (.iload_n 1, 1) := dk_27 (dk_at dksX7_drawnAct_2 19 rfl rfl)
theorem dX7_drawnAct_67 : decode cX7_drawnAct 67 = .ok (.iload_n 2, 1) := dk_28 (dk_at dksX7_drawnAct_2 20 rfl rfl)
theorem dX7_drawnAct_68 : decode cX7_drawnAct 68 = .ok (.invokevirtual 382, 3) := dk_182 1 126 (dk_at dksX7_drawnAct_2 21 rfl rfl)
theorem dX7_drawnAct_71 : decode cX7_drawnAct 71 = .ok (.iconst 0, 1) := dk_3 (dk_at dksX7_drawnAct_3 0 rfl rfl)
theorem dX7_drawnAct_72 : decode cX7_drawnAct 72 = .ok (.ireturn, 1) := dk_172 (dk_at dksX7_drawnAct_3 1 rfl rfl)
abbrev cX7_draws : ByteArray := prog_32_method_140_code
def yX7_draws : MethodName := ⟨RX7, "draws", "(I)I"⟩
def dkwX7_draws_1 : List UInt8 := [180, 2, 37, 27, 112, 172]
abbrev dktX7_draws_1 : List UInt8 := dkwX7_draws_1 ++ []
def dkwX7_draws_0 : List UInt8 := [42, 20, 2, 35, 42, 180, 2, 37, 133, 105, 20, 2, 40, 97, 20, 2, 42, 113, 136, 181, 2, 37, 42]
abbrev dktX7_draws_0 : List UInt8 := dkwX7_draws_0 ++ dktX7_draws_1
theorem dksX7_draws_0 : cX7_draws.data.toList.drop 0 = dktX7_draws_0 := by decide +kernel
theorem dksX7_draws_1 : cX7_draws.data.toList.drop 23 = dktX7_draws_1 := dk_seg dksX7_draws_0 23 rfl rfl
theorem dX7_draws_0 : decode cX7_draws 0 = .ok (.aload_n 0, 1) := dk_42 (dk_at dksX7_draws_0 0 rfl rfl)
theorem dX7_draws_1 : decode cX7_draws 1 = .ok (.ldc2_w 547, 3) := dk_20 2 35 (dk_at dksX7_draws_0 1 rfl rfl)
theorem dX7_draws_4 : decode cX7_draws 4 = .ok (.aload_n 0, 1) := dk_42 (dk_at dksX7_draws_0 4 rfl rfl)
theorem dX7_draws_5 : decode cX7_draws 5 = .ok (.getfield 549, 3) := dk_180 2 37 (dk_at dksX7_draws_0 5 rfl rfl)
theorem dX7_draws_8 : decode cX7_draws 8 = .ok (.i2l, 1) := dk_133 (dk_at dksX7_draws_0 8 rfl rfl)
theorem dX7_draws_9 : decode cX7_draws 9 = .ok (.lmul, 1) := dk_105 (dk_at dksX7_draws_0 9 rfl rfl)
theorem dX7_draws_10 : decode cX7_draws 10 = .ok (.ldc2_w 552, 3) := dk_20 2 40 (dk_at dksX7_draws_0 10 rfl rfl)
theorem dX7_draws_13 : decode cX7_draws 13 = .ok (.ladd, 1) := dk_97 (dk_at dksX7_draws_0 13 rfl rfl)
theorem dX7_draws_14 : decode cX7_draws 14 = .ok (.ldc2_w 554, 3) := dk_20 2 42 (dk_at dksX7_draws_0 14 rfl rfl)
theorem dX7_draws_17 : decode cX7_draws 17 = .ok (.lrem, 1) := dk_113 (dk_at dksX7_draws_0 17 rfl rfl)
theorem dX7_draws_18 : decode cX7_draws 18 = .ok (.l2i, 1) := dk_136 (dk_at dksX7_draws_0 18 rfl rfl)
theorem dX7_draws_19 : decode cX7_draws 19 = .ok (.putfield 549, 3) := dk_181 2 37 (dk_at dksX7_draws_0 19 rfl rfl)
theorem dX7_draws_22 : decode cX7_draws 22 = .ok (.aload_n 0, 1) := dk_42 (dk_at dksX7_draws_0 22 rfl rfl)
theorem dX7_draws_23 : decode cX7_draws 23 = .ok (.getfield 549, 3) := dk_180 2 37 (dk_at dksX7_draws_1 0 rfl rfl)
theorem dX7_draws_26 : decode cX7_draws 26 = .ok (.iload_n 1, 1) := dk_27 (dk_at dksX7_draws_1 3 rfl rfl)
theorem dX7_draws_27 : decode cX7_draws 27 = .ok (.irem, 1) := dk_112 (dk_at dksX7_draws_1 4 rfl rfl)
theorem dX7_draws_28 : decode cX7_draws 28 = .ok (.ireturn, 1) := dk_172 (dk_at dksX7_draws_1 5 rfl rfl)
abbrev cX7_drawn : ByteArray := prog_32_method_143_code
def yX7_drawn : MethodName := ⟨RX7, "drawn", "(II)I"⟩
def dkwX7_drawn_1 : List UInt8 := [180, 0, 136, 16, 25, 27, 104, 28, 96, 46, 167, 0, 4, 2, 172]
abbrev dktX7_drawn_1 : List UInt8 := dkwX7_drawn_1 ++ []
def dkwX7_drawn_0 : List UInt8 := [42, 180, 2, 47, 153, 0, 31, 27, 184, 0, 152, 153, 0, 24, 28, 184, 1, 148, 153, 0, 17, 42]
abbrev dktX7_drawn_0 : List UInt8 := dkwX7_drawn_0 ++ dktX7_drawn_1
theorem dksX7_drawn_0 : cX7_drawn.data.toList.drop 0 = dktX7_drawn_0 := by decide +kernel
theorem dksX7_drawn_1 : cX7_drawn.data.toList.drop 22 = dktX7_drawn_1 := dk_seg dksX7_drawn_0 22 rfl rfl
theorem dX7_drawn_0 : decode cX7_drawn 0 = .ok (.aload_n 0, 1) := dk_42 (dk_at dksX7_drawn_0 0 rfl rfl)
theorem dX7_drawn_1 : decode cX7_drawn 1 = .ok (.getfield 559, 3) := dk_180 2 47 (dk_at dksX7_drawn_0 1 rfl rfl)
theorem dX7_drawn_4 : decode cX7_drawn 4 = .ok (.ifCond .eq 31, 3) := dk_153 0 31 (dk_at dksX7_drawn_0 4 rfl rfl)
theorem dX7_drawn_7 : decode cX7_drawn 7 = .ok (.iload_n 1, 1) := dk_27 (dk_at dksX7_drawn_0 7 rfl rfl)
theorem dX7_drawn_8 : decode cX7_drawn 8 = .ok (.invokestatic 152, 3) := dk_184 0 152 (dk_at dksX7_drawn_0 8 rfl rfl)
theorem dX7_drawn_11 : decode cX7_drawn 11 = .ok (.ifCond .eq 24, 3) := dk_153 0 24 (dk_at dksX7_drawn_0 11 rfl rfl)
theorem dX7_drawn_14 : decode cX7_drawn 14 = .ok (.iload_n 2, 1) := dk_28 (dk_at dksX7_drawn_0 14 rfl rfl)
theorem dX7_drawn_15 : decode cX7_drawn 15 = .ok (.invokestatic 404, 3) := dk_184 1 148 (dk_at dksX7_drawn_0 15 rfl rfl)
theorem dX7_drawn_18 : decode cX7_drawn 18 = .ok (.ifCond .eq 17, 3) := dk_153 0 17 (dk_at dksX7_drawn_0 18 rfl rfl)
theorem dX7_drawn_21 : decode cX7_drawn 21 = .ok (.aload_n 0, 1) := dk_42 (dk_at dksX7_drawn_0 21 rfl rfl)
theorem dX7_drawn_22 : decode cX7_drawn 22 = .ok (.getfield 136, 3) := dk_180 0 136 (dk_at dksX7_drawn_1 0 rfl rfl)
theorem dX7_drawn_25 : decode cX7_drawn 25 = .ok (.bipush 25, 2) := dk_16 25 (dk_at dksX7_drawn_1 3 rfl rfl)
theorem dX7_drawn_27 : decode cX7_drawn 27 = .ok (.iload_n 1, 1) := dk_27 (dk_at dksX7_drawn_1 5 rfl rfl)
theorem dX7_drawn_28 : decode cX7_drawn 28 = .ok (.imul, 1) := dk_104 (dk_at dksX7_drawn_1 6 rfl rfl)
theorem dX7_drawn_29 : decode cX7_drawn 29 = .ok (.iload_n 2, 1) := dk_28 (dk_at dksX7_drawn_1 7 rfl rfl)
theorem dX7_drawn_30 : decode cX7_drawn 30 = .ok (.iadd, 1) := dk_96 (dk_at dksX7_drawn_1 8 rfl rfl)
theorem dX7_drawn_31 : decode cX7_drawn 31 = .ok (.iaload, 1) := dk_46 (dk_at dksX7_drawn_1 9 rfl rfl)
theorem dX7_drawn_32 : decode cX7_drawn 32 = .ok (.goto 4, 3) := dk_167 0 4 (dk_at dksX7_drawn_1 10 rfl rfl)
theorem dX7_drawn_35 : decode cX7_drawn 35 = .ok (.iconst (-1), 1) := dk_2 (dk_at dksX7_drawn_1 13 rfl rfl)
theorem dX7_drawn_36 : decode cX7_drawn 36 = .ok (.ireturn, 1) := dk_172 (dk_at dksX7_drawn_1 14 rfl rfl)
abbrev cX7_count : ByteArray := prog_32_method_144_code
def yX7_count : MethodName := ⟨RX7, "count", "(I)I"⟩
def dkwX7_count_5 : List UInt8 := [42, 180, 0, 28, 27, 16, 11, 100, 184, 0, 176, 46, 172, 2, 172]
abbrev dktX7_count_5 : List UInt8 := dkwX7_count_5 ++ []
def dkwX7_count_4 : List UInt8 := [42, 180, 0, 7, 8, 46, 172, 42, 180, 0, 7, 16, 6, 46, 172, 42, 180, 0, 28, 17, 1, 131, 46, 172]
abbrev dktX7_count_4 : List UInt8 := dkwX7_count_4 ++ dktX7_count_5
def dkwX7_count_3 : List UInt8 := [17, 1, 130, 46, 172, 42, 180, 0, 11, 172, 42, 180, 0, 179, 172, 42, 180, 0, 7, 27, 7, 100, 46, 172]
abbrev dktX7_count_3 : List UInt8 := dkwX7_count_3 ++ dktX7_count_4
def dkwX7_count_2 : List UInt8 := [42, 180, 0, 28, 17, 1, 113, 46, 172, 42, 180, 0, 28, 17, 1, 129, 46, 172, 42, 180, 0, 28]
abbrev dktX7_count_2 : List UInt8 := dkwX7_count_2 ++ dktX7_count_3
def dkwX7_count_1 : List UInt8 := [170, 0, 0, 0, 0, 0, 158, 0, 0, 0, 0, 0, 0, 0, 14, 0, 0, 0, 75, 0, 0, 0, 84, 0, 0, 0, 93, 0, 0, 0, 102, 0, 0, 0, 107, 0, 0, 0, 112, 0, 0, 0, 112, 0, 0, 0, 112, 0, 0, 0, 121, 0, 0, 0, 128, 0, 0, 0, 136, 0, 0, 0, 145, 0, 0, 0, 145, 0, 0, 0, 145, 0, 0, 0, 145]
abbrev dktX7_count_1 : List UInt8 := dkwX7_count_1 ++ dktX7_count_2
def dkwX7_count_0 : List UInt8 := [27]
abbrev dktX7_count_0 : List UInt8 := dkwX7_count_0 ++ dktX7_count_1
theorem dksX7_count_0 : cX7_count.data.toList.drop 0 = dktX7_count_0 := by decide +kernel
theorem dksX7_count_1 : cX7_count.data.toList.drop 1 = dktX7_count_1 := dk_seg dksX7_count_0 1 rfl rfl
theorem dksX7_count_2 : cX7_count.data.toList.drop 76 = dktX7_count_2 := dk_seg dksX7_count_1 75 rfl rfl
theorem dksX7_count_3 : cX7_count.data.toList.drop 98 = dktX7_count_3 := dk_seg dksX7_count_2 22 rfl rfl
theorem dksX7_count_4 : cX7_count.data.toList.drop 122 = dktX7_count_4 := dk_seg dksX7_count_3 24 rfl rfl
theorem dksX7_count_5 : cX7_count.data.toList.drop 146 = dktX7_count_5 := dk_seg dksX7_count_4 24 rfl rfl
theorem dX7_count_0 : decode cX7_count 0 = .ok (.iload_n 1, 1) := dk_27 (dk_at dksX7_count_0 0 rfl rfl)
theorem dX7_count_1 : decode cX7_count 1 = .ok (.tableswitch 158 0 14 #[75, 84, 93, 102, 107, 112, 112, 112, 121, 128, 136, 145, 145, 145, 145], 75) := by decide +kernel
theorem dX7_count_76 : decode cX7_count 76 = .ok (.aload_n 0, 1) := dk_42 (dk_at dksX7_count_2 0 rfl rfl)
theorem dX7_count_77 : decode cX7_count 77 = .ok (.getfield 28, 3) := dk_180 0 28 (dk_at dksX7_count_2 1 rfl rfl)
theorem dX7_count_80 : decode cX7_count 80 = .ok (.sipush 369, 3) := dk_17 1 113 (dk_at dksX7_count_2 4 rfl rfl)
theorem dX7_count_83 : decode cX7_count 83 = .ok (.iaload, 1) := dk_46 (dk_at dksX7_count_2 7 rfl rfl)
theorem dX7_count_84 : decode cX7_count 84 = .ok (.ireturn, 1) := dk_172 (dk_at dksX7_count_2 8 rfl rfl)
theorem dX7_count_85 : decode cX7_count 85 = .ok (.aload_n 0, 1) := dk_42 (dk_at dksX7_count_2 9 rfl rfl)
theorem dX7_count_86 : decode cX7_count 86 = .ok (.getfield 28, 3) := dk_180 0 28 (dk_at dksX7_count_2 10 rfl rfl)
theorem dX7_count_89 : decode cX7_count 89 = .ok (.sipush 385, 3) := dk_17 1 129 (dk_at dksX7_count_2 13 rfl rfl)
theorem dX7_count_92 : decode cX7_count 92 = .ok (.iaload, 1) := dk_46 (dk_at dksX7_count_2 16 rfl rfl)
theorem dX7_count_93 : decode cX7_count 93 = .ok (.ireturn, 1) := dk_172 (dk_at dksX7_count_2 17 rfl rfl)
theorem dX7_count_94 : decode cX7_count 94 = .ok (.aload_n 0, 1) := dk_42 (dk_at dksX7_count_2 18 rfl rfl)
theorem dX7_count_95 : decode cX7_count 95 = .ok (.getfield 28, 3) := dk_180 0 28 (dk_at dksX7_count_2 19 rfl rfl)
theorem dX7_count_98 : decode cX7_count 98 = .ok (.sipush 386, 3) := dk_17 1 130 (dk_at dksX7_count_3 0 rfl rfl)
theorem dX7_count_101 : decode cX7_count 101 = .ok (.iaload, 1) := dk_46 (dk_at dksX7_count_3 3 rfl rfl)
theorem dX7_count_102 : decode cX7_count 102 = .ok (.ireturn, 1) := dk_172 (dk_at dksX7_count_3 4 rfl rfl)
theorem dX7_count_103 : decode cX7_count 103 = .ok (.aload_n 0, 1) := dk_42 (dk_at dksX7_count_3 5 rfl rfl)
theorem dX7_count_104 : decode cX7_count 104 = .ok (.getfield 11, 3) := dk_180 0 11 (dk_at dksX7_count_3 6 rfl rfl)
theorem dX7_count_107 : decode cX7_count 107 = .ok (.ireturn, 1) := dk_172 (dk_at dksX7_count_3 9 rfl rfl)
theorem dX7_count_108 : decode cX7_count 108 = .ok (.aload_n 0, 1) := dk_42 (dk_at dksX7_count_3 10 rfl rfl)
theorem dX7_count_109 : decode cX7_count 109 = .ok (.getfield 179, 3) := dk_180 0 179 (dk_at dksX7_count_3 11 rfl rfl)
theorem dX7_count_112 : decode cX7_count 112 = .ok (.ireturn, 1) := dk_172 (dk_at dksX7_count_3 14 rfl rfl)
theorem dX7_count_113 : decode cX7_count 113 = .ok (.aload_n 0, 1) := dk_42 (dk_at dksX7_count_3 15 rfl rfl)
theorem dX7_count_114 : decode cX7_count 114 = .ok (.getfield 7, 3) := dk_180 0 7 (dk_at dksX7_count_3 16 rfl rfl)
theorem dX7_count_117 : decode cX7_count 117 = .ok (.iload_n 1, 1) := dk_27 (dk_at dksX7_count_3 19 rfl rfl)
theorem dX7_count_118 : decode cX7_count 118 = .ok (.iconst 4, 1) := dk_7 (dk_at dksX7_count_3 20 rfl rfl)
theorem dX7_count_119 : decode cX7_count 119 = .ok (.isub, 1) := dk_100 (dk_at dksX7_count_3 21 rfl rfl)
theorem dX7_count_120 : decode cX7_count 120 = .ok (.iaload, 1) := dk_46 (dk_at dksX7_count_3 22 rfl rfl)
theorem dX7_count_121 : decode cX7_count 121 = .ok (.ireturn, 1) := dk_172 (dk_at dksX7_count_3 23 rfl rfl)
theorem dX7_count_122 : decode cX7_count 122 = .ok (.aload_n 0, 1) := dk_42 (dk_at dksX7_count_4 0 rfl rfl)
theorem dX7_count_123 : decode cX7_count 123 = .ok (.getfield 7, 3) := dk_180 0 7 (dk_at dksX7_count_4 1 rfl rfl)
theorem dX7_count_126 : decode cX7_count 126 = .ok (.iconst 5, 1) := dk_8 (dk_at dksX7_count_4 4 rfl rfl)
theorem dX7_count_127 : decode cX7_count 127 = .ok (.iaload, 1) := dk_46 (dk_at dksX7_count_4 5 rfl rfl)
theorem dX7_count_128 : decode cX7_count 128 = .ok (.ireturn, 1) := dk_172 (dk_at dksX7_count_4 6 rfl rfl)
theorem dX7_count_129 : decode cX7_count 129 = .ok (.aload_n 0, 1) := dk_42 (dk_at dksX7_count_4 7 rfl rfl)
theorem dX7_count_130 : decode cX7_count 130 = .ok (.getfield 7, 3) := dk_180 0 7 (dk_at dksX7_count_4 8 rfl rfl)
theorem dX7_count_133 : decode cX7_count 133 = .ok (.bipush 6, 2) := dk_16 6 (dk_at dksX7_count_4 11 rfl rfl)
theorem dX7_count_135 : decode cX7_count 135 = .ok (.iaload, 1) := dk_46 (dk_at dksX7_count_4 13 rfl rfl)
theorem dX7_count_136 : decode cX7_count 136 = .ok (.ireturn, 1) := dk_172 (dk_at dksX7_count_4 14 rfl rfl)
theorem dX7_count_137 : decode cX7_count 137 = .ok (.aload_n 0, 1) := dk_42 (dk_at dksX7_count_4 15 rfl rfl)
theorem dX7_count_138 : decode cX7_count 138 = .ok (.getfield 28, 3) := dk_180 0 28 (dk_at dksX7_count_4 16 rfl rfl)
theorem dX7_count_141 : decode cX7_count 141 = .ok (.sipush 387, 3) := dk_17 1 131 (dk_at dksX7_count_4 19 rfl rfl)
theorem dX7_count_144 : decode cX7_count 144 = .ok (.iaload, 1) := dk_46 (dk_at dksX7_count_4 22 rfl rfl)
theorem dX7_count_145 : decode cX7_count 145 = .ok (.ireturn, 1) := dk_172 (dk_at dksX7_count_4 23 rfl rfl)
theorem dX7_count_146 : decode cX7_count 146 = .ok (.aload_n 0, 1) := dk_42 (dk_at dksX7_count_5 0 rfl rfl)
theorem dX7_count_147 : decode cX7_count 147 = .ok (.getfield 28, 3) := dk_180 0 28 (dk_at dksX7_count_5 1 rfl rfl)
theorem dX7_count_150 : decode cX7_count 150 = .ok (.iload_n 1, 1) := dk_27 (dk_at dksX7_count_5 4 rfl rfl)
theorem dX7_count_151 : decode cX7_count 151 = .ok (.bipush 11, 2) := dk_16 11 (dk_at dksX7_count_5 5 rfl rfl)
theorem dX7_count_153 : decode cX7_count 153 = .ok (.isub, 1) := dk_100 (dk_at dksX7_count_5 7 rfl rfl)
theorem dX7_count_154 : decode cX7_count 154 = .ok (.invokestatic 176, 3) := dk_184 0 176 (dk_at dksX7_count_5 8 rfl rfl)
theorem dX7_count_157 : decode cX7_count 157 = .ok (.iaload, 1) := dk_46 (dk_at dksX7_count_5 11 rfl rfl)
theorem dX7_count_158 : decode cX7_count 158 = .ok (.ireturn, 1) := dk_172 (dk_at dksX7_count_5 12 rfl rfl)
theorem dX7_count_159 : decode cX7_count 159 = .ok (.iconst (-1), 1) := dk_2 (dk_at dksX7_count_5 13 rfl rfl)
theorem dX7_count_160 : decode cX7_count 160 = .ok (.ireturn, 1) := dk_172 (dk_at dksX7_count_5 14 rfl rfl)
abbrev cX7_status : ByteArray := prog_32_method_145_code
def yX7_status : MethodName := ⟨RX7, "status", "()I"⟩
theorem dX7_status_0 : decode cX7_status 0 = .ok (.aload_n 0, 1) := by decide +kernel
theorem dX7_status_1 : decode cX7_status 1 = .ok (.getfield 3, 3) := by decide +kernel
theorem dX7_status_4 : decode cX7_status 4 = .ok (.ireturn, 1) := by decide +kernel
theorem q138 : (Jvm.Cond.initialized "MissCurvesModel") ∈ lw_all := lw_g (lw_at lw_m1 11 rfl) rfl
theorem q1545 : (Jvm.Cond.selects "MissCurvesModel" ({ cls := "java/lang/Object", name := "getClass", desc := "()Ljava/lang/Class;" } : Jvm.MethodName) ({ cls := "java/lang/Object", name := "getClass", desc := "()Ljava/lang/Class;" } : Jvm.MethodName)) ∈ lw_all := lw_g (lw_at lw_m6 218 rfl) rfl
theorem q1798 : (Jvm.Cond.selects "MissCurvesModel" ({ cls := "java/lang/Object", name := "toString", desc := "()Ljava/lang/String;" } : Jvm.MethodName) ({ cls := "java/lang/Object", name := "toString", desc := "()Ljava/lang/String;" } : Jvm.MethodName)) ∈ lw_all := lw_g (lw_at lw_m7 231 rfl) rfl
theorem q2197 : (Jvm.Cond.instantiable "MissCurvesModel" (64 : Nat)) ∈ lw_all := lw_g (lw_at lw_m9 150 rfl) rfl
theorem q2199 : (Jvm.Cond.instanceMethod ({ cls := "MissCurvesModel", name := "<init>", desc := "()V" } : Jvm.MethodName)) ∈ lw_all := lw_g (lw_at lw_m9 152 rfl) rfl
theorem q2200 : (Jvm.Cond.code ({ cls := "MissCurvesModel", name := "<init>", desc := "()V" } : Jvm.MethodName) prog_32_method_10_code (1 : Nat) (Option.none : Option Jvm.ClassFile.FieldType)) ∈ lw_all := lw_g (lw_at lw_m9 153 rfl) rfl
theorem q2201 : (Jvm.Cond.methodLink "MissCurvesModel" (22 : Nat) ({ cls := "java/lang/Object", name := "<init>", desc := "()V" } : Jvm.MethodName)) ∈ lw_all := lw_g (lw_at lw_m9 154 rfl) rfl
theorem q2202 : (Jvm.Cond.methodLink "MissCurvesModel" (139 : Nat) ({ cls := "MissCurvesModel", name := "emptiesSamples", desc := "()V" } : Jvm.MethodName)) ∈ lw_all := lw_g (lw_at lw_m9 155 rfl) rfl
theorem q2203 : (Jvm.Cond.privateMethod ({ cls := "MissCurvesModel", name := "emptiesSamples", desc := "()V" } : Jvm.MethodName)) ∈ lw_tbl := lw_at lw_m9 156 rfl
theorem q2204 : (Jvm.Cond.instanceMethod ({ cls := "MissCurvesModel", name := "emptiesSamples", desc := "()V" } : Jvm.MethodName)) ∈ lw_all := lw_g (lw_at lw_m9 157 rfl) rfl
theorem q2205 : (Jvm.Cond.code ({ cls := "MissCurvesModel", name := "emptiesSamples", desc := "()V" } : Jvm.MethodName) prog_32_method_11_code (2 : Nat) (Option.none : Option Jvm.ClassFile.FieldType)) ∈ lw_all := lw_g (lw_at lw_m9 158 rfl) rfl
theorem q2206 : (Jvm.Cond.methodLink "MissCurvesModel" (142 : Nat) ({ cls := "MissCurvesModel", name := "at", desc := "(II)I" } : Jvm.MethodName)) ∈ lw_all := lw_g (lw_at lw_m9 159 rfl) rfl
theorem q2207 : (Jvm.Cond.static ({ cls := "MissCurvesModel", name := "at", desc := "(II)I" } : Jvm.MethodName)) ∈ lw_all := lw_g (lw_at lw_m9 160 rfl) rfl
theorem q2208 : (Jvm.Cond.code ({ cls := "MissCurvesModel", name := "at", desc := "(II)I" } : Jvm.MethodName) prog_32_method_12_code (2 : Nat) (Option.some Jvm.ClassFile.FieldType.int)) ∈ lw_all := lw_g (lw_at lw_m9 161 rfl) rfl
theorem q2209 : (Jvm.Cond.fieldLink "MissCurvesModel" (3 : Nat) "MissCurvesModel" "status" "I") ∈ lw_all := lw_g (lw_at lw_m9 162 rfl) rfl
theorem q2210 : (Jvm.Cond.fieldLink "MissCurvesModel" (7 : Nat) "MissCurvesModel" "refused" "[I") ∈ lw_all := lw_g (lw_at lw_m9 163 rfl) rfl
theorem q2211 : (Jvm.Cond.fieldLink "MissCurvesModel" (28 : Nat) "MissCurvesModel" "kept" "[I") ∈ lw_all := lw_g (lw_at lw_m9 164 rfl) rfl
theorem q2212 : (Jvm.Cond.fieldLink "MissCurvesModel" (31 : Nat) "MissCurvesModel" "parts" "[J") ∈ lw_all := lw_g (lw_at lw_m9 165 rfl) rfl
theorem q2213 : (Jvm.Cond.fieldLink "MissCurvesModel" (35 : Nat) "MissCurvesModel" "images" "[I") ∈ lw_all := lw_g (lw_at lw_m9 166 rfl) rfl
theorem q2214 : (Jvm.Cond.fieldLink "MissCurvesModel" (38 : Nat) "MissCurvesModel" "imageParts" "[J") ∈ lw_all := lw_g (lw_at lw_m9 167 rfl) rfl
theorem q2215 : (Jvm.Cond.fieldLink "MissCurvesModel" (41 : Nat) "MissCurvesModel" "hasImage" "[Z") ∈ lw_all := lw_g (lw_at lw_m9 168 rfl) rfl
theorem q2216 : (Jvm.Cond.fieldLink "MissCurvesModel" (45 : Nat) "MissCurvesModel" "aside" "[I") ∈ lw_all := lw_g (lw_at lw_m9 169 rfl) rfl
theorem q2217 : (Jvm.Cond.fieldLink "MissCurvesModel" (48 : Nat) "MissCurvesModel" "asideParts" "[J") ∈ lw_all := lw_g (lw_at lw_m9 170 rfl) rfl
theorem q2218 : (Jvm.Cond.fieldLink "MissCurvesModel" (182 : Nat) "MissCurvesModel" "blanks0" "I") ∈ lw_all := lw_g (lw_at lw_m9 171 rfl) rfl
theorem q2219 : (Jvm.Cond.fieldLink "MissCurvesModel" (51 : Nat) "MissCurvesModel" "words" "[B") ∈ lw_all := lw_g (lw_at lw_m9 172 rfl) rfl
theorem q2220 : (Jvm.Cond.fieldLink "MissCurvesModel" (263 : Nat) "MissCurvesModel" "firstWord" "I") ∈ lw_all := lw_g (lw_at lw_m9 173 rfl) rfl
theorem q2221 : (Jvm.Cond.fieldLink "MissCurvesModel" (266 : Nat) "MissCurvesModel" "lastWord" "I") ∈ lw_all := lw_g (lw_at lw_m9 174 rfl) rfl
theorem q2222 : (Jvm.Cond.fieldLink "MissCurvesModel" (237 : Nat) "MissCurvesModel" "isOrders" "Z") ∈ lw_all := lw_g (lw_at lw_m9 175 rfl) rfl
theorem q2223 : (Jvm.Cond.fieldLink "MissCurvesModel" (55 : Nat) "MissCurvesModel" "tape" "[B") ∈ lw_all := lw_g (lw_at lw_m9 176 rfl) rfl
theorem q2224 : (Jvm.Cond.fieldLink "MissCurvesModel" (58 : Nat) "MissCurvesModel" "five" "[I") ∈ lw_all := lw_g (lw_at lw_m9 177 rfl) rfl
theorem q2225 : (Jvm.Cond.fieldLink "MissCurvesModel" (179 : Nat) "MissCurvesModel" "taped" "I") ∈ lw_all := lw_g (lw_at lw_m9 178 rfl) rfl
theorem q2226 : (Jvm.Cond.fieldLink "MissCurvesModel" (61 : Nat) "MissCurvesModel" "fault" "I") ∈ lw_all := lw_g (lw_at lw_m9 179 rfl) rfl
theorem q2227 : (Jvm.Cond.fieldLink "MissCurvesModel" (64 : Nat) "MissCurvesModel" "code" "[I") ∈ lw_all := lw_g (lw_at lw_m9 180 rfl) rfl
theorem q2228 : (Jvm.Cond.fieldLink "MissCurvesModel" (67 : Nat) "MissCurvesModel" "value" "[I") ∈ lw_all := lw_g (lw_at lw_m9 181 rfl) rfl
theorem q2229 : (Jvm.Cond.fieldLink "MissCurvesModel" (70 : Nat) "MissCurvesModel" "placed" "[I") ∈ lw_all := lw_g (lw_at lw_m9 182 rfl) rfl
theorem q2230 : (Jvm.Cond.fieldLink "MissCurvesModel" (188 : Nat) "MissCurvesModel" "tokens" "I") ∈ lw_all := lw_g (lw_at lw_m9 183 rfl) rfl
theorem q2231 : (Jvm.Cond.fieldLink "MissCurvesModel" (208 : Nat) "MissCurvesModel" "token" "I") ∈ lw_all := lw_g (lw_at lw_m9 184 rfl) rfl
theorem q2232 : (Jvm.Cond.fieldLink "MissCurvesModel" (217 : Nat) "MissCurvesModel" "leaves" "I") ∈ lw_all := lw_g (lw_at lw_m9 185 rfl) rfl
theorem q2233 : (Jvm.Cond.fieldLink "MissCurvesModel" (201 : Nat) "MissCurvesModel" "bad" "I") ∈ lw_all := lw_g (lw_at lw_m9 186 rfl) rfl
theorem q2234 : (Jvm.Cond.fieldLink "MissCurvesModel" (294 : Nat) "MissCurvesModel" "go" "I") ∈ lw_all := lw_g (lw_at lw_m9 187 rfl) rfl
theorem q2235 : (Jvm.Cond.fieldLink "MissCurvesModel" (291 : Nat) "MissCurvesModel" "goEnd" "I") ∈ lw_all := lw_g (lw_at lw_m9 188 rfl) rfl
theorem q2236 : (Jvm.Cond.fieldLink "MissCurvesModel" (304 : Nat) "MissCurvesModel" "broken" "Z") ∈ lw_all := lw_g (lw_at lw_m9 189 rfl) rfl
theorem q2237 : (Jvm.Cond.fieldLink "MissCurvesModel" (324 : Nat) "MissCurvesModel" "inOrders" "Z") ∈ lw_all := lw_g (lw_at lw_m9 190 rfl) rfl
theorem q2238 : (Jvm.Cond.fieldLink "MissCurvesModel" (73 : Nat) "MissCurvesModel" "asked" "[I") ∈ lw_all := lw_g (lw_at lw_m9 191 rfl) rfl
theorem q2239 : (Jvm.Cond.fieldLink "MissCurvesModel" (330 : Nat) "MissCurvesModel" "orderDone" "I") ∈ lw_all := lw_g (lw_at lw_m9 192 rfl) rfl
theorem q2240 : (Jvm.Cond.fieldLink "MissCurvesModel" (333 : Nat) "MissCurvesModel" "orderLatest" "I") ∈ lw_all := lw_g (lw_at lw_m9 193 rfl) rfl
theorem q2241 : (Jvm.Cond.fieldLink "MissCurvesModel" (76 : Nat) "MissCurvesModel" "left0" "[I") ∈ lw_all := lw_g (lw_at lw_m9 194 rfl) rfl
theorem q2242 : (Jvm.Cond.fieldLink "MissCurvesModel" (79 : Nat) "MissCurvesModel" "leftParts" "[J") ∈ lw_all := lw_g (lw_at lw_m9 195 rfl) rfl
theorem q2243 : (Jvm.Cond.fieldLink "MissCurvesModel" (82 : Nat) "MissCurvesModel" "leftAhead" "[I") ∈ lw_all := lw_g (lw_at lw_m9 196 rfl) rfl
theorem q2244 : (Jvm.Cond.fieldLink "MissCurvesModel" (85 : Nat) "MissCurvesModel" "leftPartsAhead" "[J") ∈ lw_all := lw_g (lw_at lw_m9 197 rfl) rfl
theorem q2245 : (Jvm.Cond.fieldLink "MissCurvesModel" (11 : Nat) "MissCurvesModel" "undoMany" "I") ∈ lw_all := lw_g (lw_at lw_m9 198 rfl) rfl
theorem q2246 : (Jvm.Cond.fieldLink "MissCurvesModel" (88 : Nat) "MissCurvesModel" "missed" "[I") ∈ lw_all := lw_g (lw_at lw_m9 199 rfl) rfl
theorem q2247 : (Jvm.Cond.fieldLink "MissCurvesModel" (91 : Nat) "MissCurvesModel" "bends" "[I") ∈ lw_all := lw_g (lw_at lw_m9 200 rfl) rfl
theorem q2248 : (Jvm.Cond.fieldLink "MissCurvesModel" (94 : Nat) "MissCurvesModel" "bendMany" "[I") ∈ lw_all := lw_g (lw_at lw_m9 201 rfl) rfl
theorem q2249 : (Jvm.Cond.fieldLink "MissCurvesModel" (97 : Nat) "MissCurvesModel" "reported" "[B") ∈ lw_all := lw_g (lw_at lw_m9 202 rfl) rfl
theorem q2250 : (Jvm.Cond.fieldLink "MissCurvesModel" (100 : Nat) "MissCurvesModel" "digits" "[B") ∈ lw_all := lw_g (lw_at lw_m9 203 rfl) rfl
theorem q2251 : (Jvm.Cond.fieldLink "MissCurvesModel" (427 : Nat) "MissCurvesModel" "reportMany" "I") ∈ lw_all := lw_g (lw_at lw_m9 204 rfl) rfl
theorem q2252 : (Jvm.Cond.fieldLink "MissCurvesModel" (103 : Nat) "MissCurvesModel" "gets" "[I") ∈ lw_all := lw_g (lw_at lw_m9 205 rfl) rfl
theorem q2253 : (Jvm.Cond.fieldLink "MissCurvesModel" (439 : Nat) "MissCurvesModel" "falls" "J") ∈ lw_all := lw_g (lw_at lw_m9 206 rfl) rfl
theorem q2254 : (Jvm.Cond.fieldLink "MissCurvesModel" (443 : Nat) "MissCurvesModel" "fallsBy" "I") ∈ lw_all := lw_g (lw_at lw_m9 207 rfl) rfl
theorem q2255 : (Jvm.Cond.fieldLink "MissCurvesModel" (106 : Nat) "MissCurvesModel" "fewest" "[I") ∈ lw_all := lw_g (lw_at lw_m9 208 rfl) rfl
theorem q2256 : (Jvm.Cond.fieldLink "MissCurvesModel" (109 : Nat) "MissCurvesModel" "first" "[I") ∈ lw_all := lw_g (lw_at lw_m9 209 rfl) rfl
theorem q2257 : (Jvm.Cond.fieldLink "MissCurvesModel" (112 : Nat) "MissCurvesModel" "lastRead" "[I") ∈ lw_all := lw_g (lw_at lw_m9 210 rfl) rfl
theorem q2258 : (Jvm.Cond.fieldLink "MissCurvesModel" (115 : Nat) "MissCurvesModel" "oftenRead" "[I") ∈ lw_all := lw_g (lw_at lw_m9 211 rfl) rfl
theorem q2259 : (Jvm.Cond.fieldLink "MissCurvesModel" (118 : Nat) "MissCurvesModel" "holds" "[J") ∈ lw_all := lw_g (lw_at lw_m9 212 rfl) rfl
theorem q2260 : (Jvm.Cond.fieldLink "MissCurvesModel" (121 : Nat) "MissCurvesModel" "since" "[I") ∈ lw_all := lw_g (lw_at lw_m9 213 rfl) rfl
theorem q2261 : (Jvm.Cond.fieldLink "MissCurvesModel" (124 : Nat) "MissCurvesModel" "missesWith" "[I") ∈ lw_all := lw_g (lw_at lw_m9 214 rfl) rfl
theorem q2262 : (Jvm.Cond.fieldLink "MissCurvesModel" (127 : Nat) "MissCurvesModel" "shares" "[J") ∈ lw_all := lw_g (lw_at lw_m9 215 rfl) rfl
theorem q2263 : (Jvm.Cond.fieldLink "MissCurvesModel" (130 : Nat) "MissCurvesModel" "stopped0" "I") ∈ lw_all := lw_g (lw_at lw_m9 216 rfl) rfl
theorem q2264 : (Jvm.Cond.fieldLink "MissCurvesModel" (515 : Nat) "MissCurvesModel" "orderAt" "I") ∈ lw_all := lw_g (lw_at lw_m9 217 rfl) rfl
theorem q2265 : (Jvm.Cond.fieldLink "MissCurvesModel" (530 : Nat) "MissCurvesModel" "howOften" "I") ∈ lw_all := lw_g (lw_at lw_m9 218 rfl) rfl
theorem q2266 : (Jvm.Cond.fieldLink "MissCurvesModel" (524 : Nat) "MissCurvesModel" "head" "I") ∈ lw_all := lw_g (lw_at lw_m9 219 rfl) rfl
theorem q2267 : (Jvm.Cond.fieldLink "MissCurvesModel" (527 : Nat) "MissCurvesModel" "sumsAre" "Z") ∈ lw_all := lw_g (lw_at lw_m9 220 rfl) rfl
theorem q2268 : (Jvm.Cond.fieldLink "MissCurvesModel" (533 : Nat) "MissCurvesModel" "testIs" "Z") ∈ lw_all := lw_g (lw_at lw_m9 221 rfl) rfl
theorem q2269 : (Jvm.Cond.fieldLink "MissCurvesModel" (133 : Nat) "MissCurvesModel" "sums" "[J") ∈ lw_all := lw_g (lw_at lw_m9 222 rfl) rfl
theorem q2270 : (Jvm.Cond.fieldLink "MissCurvesModel" (136 : Nat) "MissCurvesModel" "drawnMisses" "[I") ∈ lw_all := lw_g (lw_at lw_m9 223 rfl) rfl
theorem q2271 : (Jvm.Cond.fieldLink "MissCurvesModel" (559 : Nat) "MissCurvesModel" "hasDrawn" "Z") ∈ lw_all := lw_g (lw_at lw_m9 224 rfl) rfl
theorem q2272 : (Jvm.Cond.fieldLink "MissCurvesModel" (549 : Nat) "MissCurvesModel" "latest" "I") ∈ lw_all := lw_g (lw_at lw_m9 225 rfl) rfl
theorem q2273 : (Jvm.Cond.lays "MissCurvesModel" "MissCurvesModel" "status" "I") ∈ lw_all := lw_g (lw_at lw_m9 226 rfl) rfl
theorem q2274 : (Jvm.Cond.soleField "MissCurvesModel" "status") ∈ lw_all := lw_g (lw_at lw_m9 227 rfl) rfl
theorem q2275 : (Jvm.Cond.laysFinal "MissCurvesModel" "MissCurvesModel" "refused" "[I") ∈ lw_all := lw_g (lw_at lw_m9 228 rfl) rfl
theorem q2276 : (Jvm.Cond.soleField "MissCurvesModel" "refused") ∈ lw_all := lw_g (lw_at lw_m9 229 rfl) rfl
theorem q2277 : (Jvm.Cond.laysFinal "MissCurvesModel" "MissCurvesModel" "kept" "[I") ∈ lw_all := lw_g (lw_at lw_m9 230 rfl) rfl
theorem q2278 : (Jvm.Cond.soleField "MissCurvesModel" "kept") ∈ lw_all := lw_g (lw_at lw_m9 231 rfl) rfl
theorem q2279 : (Jvm.Cond.laysFinal "MissCurvesModel" "MissCurvesModel" "parts" "[J") ∈ lw_all := lw_g (lw_at lw_m9 232 rfl) rfl
theorem q2280 : (Jvm.Cond.soleField "MissCurvesModel" "parts") ∈ lw_all := lw_g (lw_at lw_m9 233 rfl) rfl
theorem q2281 : (Jvm.Cond.laysFinal "MissCurvesModel" "MissCurvesModel" "images" "[I") ∈ lw_all := lw_g (lw_at lw_m9 234 rfl) rfl
theorem q2282 : (Jvm.Cond.soleField "MissCurvesModel" "images") ∈ lw_all := lw_g (lw_at lw_m9 235 rfl) rfl
theorem q2283 : (Jvm.Cond.laysFinal "MissCurvesModel" "MissCurvesModel" "imageParts" "[J") ∈ lw_all := lw_g (lw_at lw_m9 236 rfl) rfl
theorem q2284 : (Jvm.Cond.soleField "MissCurvesModel" "imageParts") ∈ lw_all := lw_g (lw_at lw_m9 237 rfl) rfl
theorem q2285 : (Jvm.Cond.laysFinal "MissCurvesModel" "MissCurvesModel" "hasImage" "[Z") ∈ lw_all := lw_g (lw_at lw_m9 238 rfl) rfl
theorem q2286 : (Jvm.Cond.soleField "MissCurvesModel" "hasImage") ∈ lw_all := lw_g (lw_at lw_m9 239 rfl) rfl
theorem q2287 : (Jvm.Cond.laysFinal "MissCurvesModel" "MissCurvesModel" "aside" "[I") ∈ lw_all := lw_g (lw_at lw_m10 0 rfl) rfl
theorem q2288 : (Jvm.Cond.soleField "MissCurvesModel" "aside") ∈ lw_all := lw_g (lw_at lw_m10 1 rfl) rfl
theorem q2289 : (Jvm.Cond.laysFinal "MissCurvesModel" "MissCurvesModel" "asideParts" "[J") ∈ lw_all := lw_g (lw_at lw_m10 2 rfl) rfl
theorem q2290 : (Jvm.Cond.soleField "MissCurvesModel" "asideParts") ∈ lw_all := lw_g (lw_at lw_m10 3 rfl) rfl
theorem q2291 : (Jvm.Cond.lays "MissCurvesModel" "MissCurvesModel" "blanks0" "I") ∈ lw_all := lw_g (lw_at lw_m10 4 rfl) rfl
theorem q2292 : (Jvm.Cond.soleField "MissCurvesModel" "blanks0") ∈ lw_all := lw_g (lw_at lw_m10 5 rfl) rfl
theorem q2293 : (Jvm.Cond.laysFinal "MissCurvesModel" "MissCurvesModel" "words" "[B") ∈ lw_all := lw_g (lw_at lw_m10 6 rfl) rfl
theorem q2294 : (Jvm.Cond.soleField "MissCurvesModel" "words") ∈ lw_all := lw_g (lw_at lw_m10 7 rfl) rfl
theorem q2295 : (Jvm.Cond.lays "MissCurvesModel" "MissCurvesModel" "firstWord" "I") ∈ lw_all := lw_g (lw_at lw_m10 8 rfl) rfl
theorem q2296 : (Jvm.Cond.soleField "MissCurvesModel" "firstWord") ∈ lw_all := lw_g (lw_at lw_m10 9 rfl) rfl
theorem q2297 : (Jvm.Cond.lays "MissCurvesModel" "MissCurvesModel" "lastWord" "I") ∈ lw_all := lw_g (lw_at lw_m10 10 rfl) rfl
theorem q2298 : (Jvm.Cond.soleField "MissCurvesModel" "lastWord") ∈ lw_all := lw_g (lw_at lw_m10 11 rfl) rfl
theorem q2299 : (Jvm.Cond.lays "MissCurvesModel" "MissCurvesModel" "isOrders" "Z") ∈ lw_all := lw_g (lw_at lw_m10 12 rfl) rfl
theorem q2300 : (Jvm.Cond.soleField "MissCurvesModel" "isOrders") ∈ lw_all := lw_g (lw_at lw_m10 13 rfl) rfl
theorem q2301 : (Jvm.Cond.laysFinal "MissCurvesModel" "MissCurvesModel" "tape" "[B") ∈ lw_all := lw_g (lw_at lw_m10 14 rfl) rfl
theorem q2302 : (Jvm.Cond.soleField "MissCurvesModel" "tape") ∈ lw_all := lw_g (lw_at lw_m10 15 rfl) rfl
theorem q2303 : (Jvm.Cond.laysFinal "MissCurvesModel" "MissCurvesModel" "five" "[I") ∈ lw_all := lw_g (lw_at lw_m10 16 rfl) rfl
theorem q2304 : (Jvm.Cond.soleField "MissCurvesModel" "five") ∈ lw_all := lw_g (lw_at lw_m10 17 rfl) rfl
theorem q2305 : (Jvm.Cond.lays "MissCurvesModel" "MissCurvesModel" "taped" "I") ∈ lw_all := lw_g (lw_at lw_m10 18 rfl) rfl
theorem q2306 : (Jvm.Cond.soleField "MissCurvesModel" "taped") ∈ lw_all := lw_g (lw_at lw_m10 19 rfl) rfl
theorem q2307 : (Jvm.Cond.lays "MissCurvesModel" "MissCurvesModel" "fault" "I") ∈ lw_all := lw_g (lw_at lw_m10 20 rfl) rfl
theorem q2308 : (Jvm.Cond.soleField "MissCurvesModel" "fault") ∈ lw_all := lw_g (lw_at lw_m10 21 rfl) rfl
theorem q2309 : (Jvm.Cond.laysFinal "MissCurvesModel" "MissCurvesModel" "code" "[I") ∈ lw_all := lw_g (lw_at lw_m10 22 rfl) rfl
theorem q2310 : (Jvm.Cond.soleField "MissCurvesModel" "code") ∈ lw_all := lw_g (lw_at lw_m10 23 rfl) rfl
theorem q2311 : (Jvm.Cond.laysFinal "MissCurvesModel" "MissCurvesModel" "value" "[I") ∈ lw_all := lw_g (lw_at lw_m10 24 rfl) rfl
theorem q2312 : (Jvm.Cond.soleField "MissCurvesModel" "value") ∈ lw_all := lw_g (lw_at lw_m10 25 rfl) rfl
theorem q2313 : (Jvm.Cond.laysFinal "MissCurvesModel" "MissCurvesModel" "placed" "[I") ∈ lw_all := lw_g (lw_at lw_m10 26 rfl) rfl
theorem q2314 : (Jvm.Cond.soleField "MissCurvesModel" "placed") ∈ lw_all := lw_g (lw_at lw_m10 27 rfl) rfl
theorem q2315 : (Jvm.Cond.lays "MissCurvesModel" "MissCurvesModel" "tokens" "I") ∈ lw_all := lw_g (lw_at lw_m10 28 rfl) rfl
theorem q2316 : (Jvm.Cond.soleField "MissCurvesModel" "tokens") ∈ lw_all := lw_g (lw_at lw_m10 29 rfl) rfl
theorem q2317 : (Jvm.Cond.lays "MissCurvesModel" "MissCurvesModel" "token" "I") ∈ lw_all := lw_g (lw_at lw_m10 30 rfl) rfl
theorem q2318 : (Jvm.Cond.soleField "MissCurvesModel" "token") ∈ lw_all := lw_g (lw_at lw_m10 31 rfl) rfl
theorem q2319 : (Jvm.Cond.lays "MissCurvesModel" "MissCurvesModel" "leaves" "I") ∈ lw_all := lw_g (lw_at lw_m10 32 rfl) rfl
theorem q2320 : (Jvm.Cond.soleField "MissCurvesModel" "leaves") ∈ lw_all := lw_g (lw_at lw_m10 33 rfl) rfl
theorem q2321 : (Jvm.Cond.lays "MissCurvesModel" "MissCurvesModel" "bad" "I") ∈ lw_all := lw_g (lw_at lw_m10 34 rfl) rfl
theorem q2322 : (Jvm.Cond.soleField "MissCurvesModel" "bad") ∈ lw_all := lw_g (lw_at lw_m10 35 rfl) rfl
theorem q2323 : (Jvm.Cond.lays "MissCurvesModel" "MissCurvesModel" "go" "I") ∈ lw_all := lw_g (lw_at lw_m10 36 rfl) rfl
theorem q2324 : (Jvm.Cond.soleField "MissCurvesModel" "go") ∈ lw_all := lw_g (lw_at lw_m10 37 rfl) rfl
theorem q2325 : (Jvm.Cond.lays "MissCurvesModel" "MissCurvesModel" "goEnd" "I") ∈ lw_all := lw_g (lw_at lw_m10 38 rfl) rfl
theorem q2326 : (Jvm.Cond.soleField "MissCurvesModel" "goEnd") ∈ lw_all := lw_g (lw_at lw_m10 39 rfl) rfl
theorem q2327 : (Jvm.Cond.lays "MissCurvesModel" "MissCurvesModel" "broken" "Z") ∈ lw_all := lw_g (lw_at lw_m10 40 rfl) rfl
theorem q2328 : (Jvm.Cond.soleField "MissCurvesModel" "broken") ∈ lw_all := lw_g (lw_at lw_m10 41 rfl) rfl
theorem q2329 : (Jvm.Cond.lays "MissCurvesModel" "MissCurvesModel" "inOrders" "Z") ∈ lw_all := lw_g (lw_at lw_m10 42 rfl) rfl
theorem q2330 : (Jvm.Cond.soleField "MissCurvesModel" "inOrders") ∈ lw_all := lw_g (lw_at lw_m10 43 rfl) rfl
theorem q2331 : (Jvm.Cond.laysFinal "MissCurvesModel" "MissCurvesModel" "asked" "[I") ∈ lw_all := lw_g (lw_at lw_m10 44 rfl) rfl
theorem q2332 : (Jvm.Cond.soleField "MissCurvesModel" "asked") ∈ lw_all := lw_g (lw_at lw_m10 45 rfl) rfl
theorem q2333 : (Jvm.Cond.lays "MissCurvesModel" "MissCurvesModel" "orderDone" "I") ∈ lw_all := lw_g (lw_at lw_m10 46 rfl) rfl
theorem q2334 : (Jvm.Cond.soleField "MissCurvesModel" "orderDone") ∈ lw_all := lw_g (lw_at lw_m10 47 rfl) rfl
theorem q2335 : (Jvm.Cond.lays "MissCurvesModel" "MissCurvesModel" "orderLatest" "I") ∈ lw_all := lw_g (lw_at lw_m10 48 rfl) rfl
theorem q2336 : (Jvm.Cond.soleField "MissCurvesModel" "orderLatest") ∈ lw_all := lw_g (lw_at lw_m10 49 rfl) rfl
theorem q2337 : (Jvm.Cond.laysFinal "MissCurvesModel" "MissCurvesModel" "left0" "[I") ∈ lw_all := lw_g (lw_at lw_m10 50 rfl) rfl
theorem q2338 : (Jvm.Cond.soleField "MissCurvesModel" "left0") ∈ lw_all := lw_g (lw_at lw_m10 51 rfl) rfl
theorem q2339 : (Jvm.Cond.laysFinal "MissCurvesModel" "MissCurvesModel" "leftParts" "[J") ∈ lw_all := lw_g (lw_at lw_m10 52 rfl) rfl
theorem q2340 : (Jvm.Cond.soleField "MissCurvesModel" "leftParts") ∈ lw_all := lw_g (lw_at lw_m10 53 rfl) rfl
theorem q2341 : (Jvm.Cond.laysFinal "MissCurvesModel" "MissCurvesModel" "leftAhead" "[I") ∈ lw_all := lw_g (lw_at lw_m10 54 rfl) rfl
theorem q2342 : (Jvm.Cond.soleField "MissCurvesModel" "leftAhead") ∈ lw_all := lw_g (lw_at lw_m10 55 rfl) rfl
theorem q2343 : (Jvm.Cond.laysFinal "MissCurvesModel" "MissCurvesModel" "leftPartsAhead" "[J") ∈ lw_all := lw_g (lw_at lw_m10 56 rfl) rfl
theorem q2344 : (Jvm.Cond.soleField "MissCurvesModel" "leftPartsAhead") ∈ lw_all := lw_g (lw_at lw_m10 57 rfl) rfl
theorem q2345 : (Jvm.Cond.lays "MissCurvesModel" "MissCurvesModel" "undoMany" "I") ∈ lw_all := lw_g (lw_at lw_m10 58 rfl) rfl
theorem q2346 : (Jvm.Cond.soleField "MissCurvesModel" "undoMany") ∈ lw_all := lw_g (lw_at lw_m10 59 rfl) rfl
theorem q2347 : (Jvm.Cond.laysFinal "MissCurvesModel" "MissCurvesModel" "missed" "[I") ∈ lw_all := lw_g (lw_at lw_m10 60 rfl) rfl
theorem q2348 : (Jvm.Cond.soleField "MissCurvesModel" "missed") ∈ lw_all := lw_g (lw_at lw_m10 61 rfl) rfl
theorem q2349 : (Jvm.Cond.laysFinal "MissCurvesModel" "MissCurvesModel" "bends" "[I") ∈ lw_all := lw_g (lw_at lw_m10 62 rfl) rfl
theorem q2350 : (Jvm.Cond.soleField "MissCurvesModel" "bends") ∈ lw_all := lw_g (lw_at lw_m10 63 rfl) rfl
theorem q2351 : (Jvm.Cond.laysFinal "MissCurvesModel" "MissCurvesModel" "bendMany" "[I") ∈ lw_all := lw_g (lw_at lw_m10 64 rfl) rfl
theorem q2352 : (Jvm.Cond.soleField "MissCurvesModel" "bendMany") ∈ lw_all := lw_g (lw_at lw_m10 65 rfl) rfl
theorem q2353 : (Jvm.Cond.laysFinal "MissCurvesModel" "MissCurvesModel" "reported" "[B") ∈ lw_all := lw_g (lw_at lw_m10 66 rfl) rfl
theorem q2354 : (Jvm.Cond.soleField "MissCurvesModel" "reported") ∈ lw_all := lw_g (lw_at lw_m10 67 rfl) rfl
theorem q2355 : (Jvm.Cond.laysFinal "MissCurvesModel" "MissCurvesModel" "digits" "[B") ∈ lw_all := lw_g (lw_at lw_m10 68 rfl) rfl
theorem q2356 : (Jvm.Cond.soleField "MissCurvesModel" "digits") ∈ lw_all := lw_g (lw_at lw_m10 69 rfl) rfl
theorem q2357 : (Jvm.Cond.lays "MissCurvesModel" "MissCurvesModel" "reportMany" "I") ∈ lw_all := lw_g (lw_at lw_m10 70 rfl) rfl
theorem q2358 : (Jvm.Cond.soleField "MissCurvesModel" "reportMany") ∈ lw_all := lw_g (lw_at lw_m10 71 rfl) rfl
theorem q2359 : (Jvm.Cond.laysFinal "MissCurvesModel" "MissCurvesModel" "gets" "[I") ∈ lw_all := lw_g (lw_at lw_m10 72 rfl) rfl
theorem q2360 : (Jvm.Cond.soleField "MissCurvesModel" "gets") ∈ lw_all := lw_g (lw_at lw_m10 73 rfl) rfl
theorem q2361 : (Jvm.Cond.lays "MissCurvesModel" "MissCurvesModel" "falls" "J") ∈ lw_all := lw_g (lw_at lw_m10 74 rfl) rfl
theorem q2362 : (Jvm.Cond.soleField "MissCurvesModel" "falls") ∈ lw_all := lw_g (lw_at lw_m10 75 rfl) rfl
theorem q2363 : (Jvm.Cond.lays "MissCurvesModel" "MissCurvesModel" "fallsBy" "I") ∈ lw_all := lw_g (lw_at lw_m10 76 rfl) rfl
theorem q2364 : (Jvm.Cond.soleField "MissCurvesModel" "fallsBy") ∈ lw_all := lw_g (lw_at lw_m10 77 rfl) rfl
theorem q2365 : (Jvm.Cond.laysFinal "MissCurvesModel" "MissCurvesModel" "fewest" "[I") ∈ lw_all := lw_g (lw_at lw_m10 78 rfl) rfl
theorem q2366 : (Jvm.Cond.soleField "MissCurvesModel" "fewest") ∈ lw_all := lw_g (lw_at lw_m10 79 rfl) rfl
theorem q2367 : (Jvm.Cond.laysFinal "MissCurvesModel" "MissCurvesModel" "first" "[I") ∈ lw_all := lw_g (lw_at lw_m10 80 rfl) rfl
theorem q2368 : (Jvm.Cond.soleField "MissCurvesModel" "first") ∈ lw_all := lw_g (lw_at lw_m10 81 rfl) rfl
theorem q2369 : (Jvm.Cond.laysFinal "MissCurvesModel" "MissCurvesModel" "lastRead" "[I") ∈ lw_all := lw_g (lw_at lw_m10 82 rfl) rfl
theorem q2370 : (Jvm.Cond.soleField "MissCurvesModel" "lastRead") ∈ lw_all := lw_g (lw_at lw_m10 83 rfl) rfl
theorem q2371 : (Jvm.Cond.laysFinal "MissCurvesModel" "MissCurvesModel" "oftenRead" "[I") ∈ lw_all := lw_g (lw_at lw_m10 84 rfl) rfl
theorem q2372 : (Jvm.Cond.soleField "MissCurvesModel" "oftenRead") ∈ lw_all := lw_g (lw_at lw_m10 85 rfl) rfl
theorem q2373 : (Jvm.Cond.laysFinal "MissCurvesModel" "MissCurvesModel" "holds" "[J") ∈ lw_all := lw_g (lw_at lw_m10 86 rfl) rfl
theorem q2374 : (Jvm.Cond.soleField "MissCurvesModel" "holds") ∈ lw_all := lw_g (lw_at lw_m10 87 rfl) rfl
theorem q2375 : (Jvm.Cond.laysFinal "MissCurvesModel" "MissCurvesModel" "since" "[I") ∈ lw_all := lw_g (lw_at lw_m10 88 rfl) rfl
theorem q2376 : (Jvm.Cond.soleField "MissCurvesModel" "since") ∈ lw_all := lw_g (lw_at lw_m10 89 rfl) rfl
theorem q2377 : (Jvm.Cond.laysFinal "MissCurvesModel" "MissCurvesModel" "missesWith" "[I") ∈ lw_all := lw_g (lw_at lw_m10 90 rfl) rfl
theorem q2378 : (Jvm.Cond.soleField "MissCurvesModel" "missesWith") ∈ lw_all := lw_g (lw_at lw_m10 91 rfl) rfl
theorem q2379 : (Jvm.Cond.laysFinal "MissCurvesModel" "MissCurvesModel" "shares" "[J") ∈ lw_all := lw_g (lw_at lw_m10 92 rfl) rfl
theorem q2380 : (Jvm.Cond.soleField "MissCurvesModel" "shares") ∈ lw_all := lw_g (lw_at lw_m10 93 rfl) rfl
theorem q2381 : (Jvm.Cond.lays "MissCurvesModel" "MissCurvesModel" "stopped0" "I") ∈ lw_all := lw_g (lw_at lw_m10 94 rfl) rfl
theorem q2382 : (Jvm.Cond.soleField "MissCurvesModel" "stopped0") ∈ lw_all := lw_g (lw_at lw_m10 95 rfl) rfl
theorem q2383 : (Jvm.Cond.lays "MissCurvesModel" "MissCurvesModel" "orderAt" "I") ∈ lw_all := lw_g (lw_at lw_m10 96 rfl) rfl
theorem q2384 : (Jvm.Cond.soleField "MissCurvesModel" "orderAt") ∈ lw_all := lw_g (lw_at lw_m10 97 rfl) rfl
theorem q2385 : (Jvm.Cond.lays "MissCurvesModel" "MissCurvesModel" "howOften" "I") ∈ lw_all := lw_g (lw_at lw_m10 98 rfl) rfl
theorem q2386 : (Jvm.Cond.soleField "MissCurvesModel" "howOften") ∈ lw_all := lw_g (lw_at lw_m10 99 rfl) rfl
theorem q2387 : (Jvm.Cond.lays "MissCurvesModel" "MissCurvesModel" "head" "I") ∈ lw_all := lw_g (lw_at lw_m10 100 rfl) rfl
theorem q2388 : (Jvm.Cond.soleField "MissCurvesModel" "head") ∈ lw_all := lw_g (lw_at lw_m10 101 rfl) rfl
theorem q2389 : (Jvm.Cond.lays "MissCurvesModel" "MissCurvesModel" "sumsAre" "Z") ∈ lw_all := lw_g (lw_at lw_m10 102 rfl) rfl
theorem q2390 : (Jvm.Cond.soleField "MissCurvesModel" "sumsAre") ∈ lw_all := lw_g (lw_at lw_m10 103 rfl) rfl
theorem q2391 : (Jvm.Cond.lays "MissCurvesModel" "MissCurvesModel" "testIs" "Z") ∈ lw_all := lw_g (lw_at lw_m10 104 rfl) rfl
theorem q2392 : (Jvm.Cond.soleField "MissCurvesModel" "testIs") ∈ lw_all := lw_g (lw_at lw_m10 105 rfl) rfl
theorem q2393 : (Jvm.Cond.laysFinal "MissCurvesModel" "MissCurvesModel" "sums" "[J") ∈ lw_all := lw_g (lw_at lw_m10 106 rfl) rfl
theorem q2394 : (Jvm.Cond.soleField "MissCurvesModel" "sums") ∈ lw_all := lw_g (lw_at lw_m10 107 rfl) rfl
theorem q2395 : (Jvm.Cond.laysFinal "MissCurvesModel" "MissCurvesModel" "drawnMisses" "[I") ∈ lw_all := lw_g (lw_at lw_m10 108 rfl) rfl
theorem q2396 : (Jvm.Cond.soleField "MissCurvesModel" "drawnMisses") ∈ lw_all := lw_g (lw_at lw_m10 109 rfl) rfl
theorem q2397 : (Jvm.Cond.lays "MissCurvesModel" "MissCurvesModel" "hasDrawn" "Z") ∈ lw_all := lw_g (lw_at lw_m10 110 rfl) rfl
theorem q2398 : (Jvm.Cond.soleField "MissCurvesModel" "hasDrawn") ∈ lw_all := lw_g (lw_at lw_m10 111 rfl) rfl
theorem q2399 : (Jvm.Cond.lays "MissCurvesModel" "MissCurvesModel" "latest" "I") ∈ lw_all := lw_g (lw_at lw_m10 112 rfl) rfl
theorem q2400 : (Jvm.Cond.soleField "MissCurvesModel" "latest") ∈ lw_all := lw_g (lw_at lw_m10 113 rfl) rfl
theorem q2401 : (Jvm.Cond.superclass "MissCurvesModel" "java/lang/Object") ∈ lw_all := lw_g (lw_at lw_m10 114 rfl) rfl
theorem q2404 : (Jvm.Cond.instanceMethod ({ cls := "MissCurvesModel", name := "image", desc := "(I)I" } : Jvm.MethodName)) ∈ lw_all := lw_g (lw_at lw_m10 117 rfl) rfl
theorem q2405 : (Jvm.Cond.selects "MissCurvesModel" ({ cls := "MissCurvesModel", name := "image", desc := "(I)I" } : Jvm.MethodName) ({ cls := "MissCurvesModel", name := "image", desc := "(I)I" } : Jvm.MethodName)) ∈ lw_all := lw_g (lw_at lw_m10 118 rfl) rfl
theorem q2406 : (Jvm.Cond.code ({ cls := "MissCurvesModel", name := "image", desc := "(I)I" } : Jvm.MethodName) prog_32_method_15_code (3 : Nat) (Option.some Jvm.ClassFile.FieldType.int)) ∈ lw_all := lw_g (lw_at lw_m10 119 rfl) rfl
theorem q2407 : (Jvm.Cond.methodLink "MissCurvesModel" (18 : Nat) ({ cls := "MissCurvesModel", name := "lies", desc := "(III)Z" } : Jvm.MethodName)) ∈ lw_all := lw_g (lw_at lw_m10 120 rfl) rfl
theorem q2408 : (Jvm.Cond.static ({ cls := "MissCurvesModel", name := "lies", desc := "(III)Z" } : Jvm.MethodName)) ∈ lw_all := lw_g (lw_at lw_m10 121 rfl) rfl
theorem q2409 : (Jvm.Cond.code ({ cls := "MissCurvesModel", name := "lies", desc := "(III)Z" } : Jvm.MethodName) prog_32_method_1_code (3 : Nat) (Option.some Jvm.ClassFile.FieldType.boolean)) ∈ lw_all := lw_g (lw_at lw_m10 122 rfl) rfl
theorem q2410 : (Jvm.Cond.methodLink "MissCurvesModel" (146 : Nat) ({ cls := "MissCurvesModel", name := "refuses", desc := "(I)I" } : Jvm.MethodName)) ∈ lw_all := lw_g (lw_at lw_m10 123 rfl) rfl
theorem q2411 : (Jvm.Cond.privateMethod ({ cls := "MissCurvesModel", name := "refuses", desc := "(I)I" } : Jvm.MethodName)) ∈ lw_tbl := lw_at lw_m10 124 rfl
theorem q2412 : (Jvm.Cond.instanceMethod ({ cls := "MissCurvesModel", name := "refuses", desc := "(I)I" } : Jvm.MethodName)) ∈ lw_all := lw_g (lw_at lw_m10 125 rfl) rfl
theorem q2413 : (Jvm.Cond.code ({ cls := "MissCurvesModel", name := "refuses", desc := "(I)I" } : Jvm.MethodName) prog_32_method_3_code (2 : Nat) (Option.some Jvm.ClassFile.FieldType.int)) ∈ lw_all := lw_g (lw_at lw_m10 126 rfl) rfl
theorem q2414 : (Jvm.Cond.methodLink "MissCurvesModel" (14 : Nat) ({ cls := "MissCurvesModel", name := "good", desc := "(I)I" } : Jvm.MethodName)) ∈ lw_all := lw_g (lw_at lw_m10 127 rfl) rfl
theorem q2415 : (Jvm.Cond.privateMethod ({ cls := "MissCurvesModel", name := "good", desc := "(I)I" } : Jvm.MethodName)) ∈ lw_tbl := lw_at lw_m10 128 rfl
theorem q2416 : (Jvm.Cond.instanceMethod ({ cls := "MissCurvesModel", name := "good", desc := "(I)I" } : Jvm.MethodName)) ∈ lw_all := lw_g (lw_at lw_m10 129 rfl) rfl
theorem q2417 : (Jvm.Cond.code ({ cls := "MissCurvesModel", name := "good", desc := "(I)I" } : Jvm.MethodName) prog_32_method_4_code (2 : Nat) (Option.some Jvm.ClassFile.FieldType.int)) ∈ lw_all := lw_g (lw_at lw_m10 130 rfl) rfl
theorem q2419 : (Jvm.Cond.instanceMethod ({ cls := "MissCurvesModel", name := "back", desc := "(I)I" } : Jvm.MethodName)) ∈ lw_all := lw_g (lw_at lw_m10 132 rfl) rfl
theorem q2420 : (Jvm.Cond.selects "MissCurvesModel" ({ cls := "MissCurvesModel", name := "back", desc := "(I)I" } : Jvm.MethodName) ({ cls := "MissCurvesModel", name := "back", desc := "(I)I" } : Jvm.MethodName)) ∈ lw_all := lw_g (lw_at lw_m10 133 rfl) rfl
theorem q2421 : (Jvm.Cond.code ({ cls := "MissCurvesModel", name := "back", desc := "(I)I" } : Jvm.MethodName) prog_32_method_16_code (3 : Nat) (Option.some Jvm.ClassFile.FieldType.int)) ∈ lw_all := lw_g (lw_at lw_m10 134 rfl) rfl
theorem q2422 : (Jvm.Cond.methodLink "MissCurvesModel" (149 : Nat) ({ cls := "MissCurvesModel", name := "settled", desc := "(I)I" } : Jvm.MethodName)) ∈ lw_all := lw_g (lw_at lw_m10 135 rfl) rfl
theorem q2423 : (Jvm.Cond.privateMethod ({ cls := "MissCurvesModel", name := "settled", desc := "(I)I" } : Jvm.MethodName)) ∈ lw_tbl := lw_at lw_m10 136 rfl
theorem q2424 : (Jvm.Cond.instanceMethod ({ cls := "MissCurvesModel", name := "settled", desc := "(I)I" } : Jvm.MethodName)) ∈ lw_all := lw_g (lw_at lw_m10 137 rfl) rfl
theorem q2425 : (Jvm.Cond.code ({ cls := "MissCurvesModel", name := "settled", desc := "(I)I" } : Jvm.MethodName) prog_32_method_5_code (2 : Nat) (Option.some Jvm.ClassFile.FieldType.int)) ∈ lw_all := lw_g (lw_at lw_m10 138 rfl) rfl
theorem q2427 : (Jvm.Cond.instanceMethod ({ cls := "MissCurvesModel", name := "of", desc := "(II)I" } : Jvm.MethodName)) ∈ lw_all := lw_g (lw_at lw_m10 140 rfl) rfl
theorem q2428 : (Jvm.Cond.selects "MissCurvesModel" ({ cls := "MissCurvesModel", name := "of", desc := "(II)I" } : Jvm.MethodName) ({ cls := "MissCurvesModel", name := "of", desc := "(II)I" } : Jvm.MethodName)) ∈ lw_all := lw_g (lw_at lw_m10 141 rfl) rfl
theorem q2429 : (Jvm.Cond.code ({ cls := "MissCurvesModel", name := "of", desc := "(II)I" } : Jvm.MethodName) prog_32_method_17_code (3 : Nat) (Option.some Jvm.ClassFile.FieldType.int)) ∈ lw_all := lw_g (lw_at lw_m10 142 rfl) rfl
theorem q2430 : (Jvm.Cond.methodLink "MissCurvesModel" (152 : Nat) ({ cls := "MissCurvesModel", name := "isTenant", desc := "(I)Z" } : Jvm.MethodName)) ∈ lw_all := lw_g (lw_at lw_m10 143 rfl) rfl
theorem q2431 : (Jvm.Cond.static ({ cls := "MissCurvesModel", name := "isTenant", desc := "(I)Z" } : Jvm.MethodName)) ∈ lw_all := lw_g (lw_at lw_m10 144 rfl) rfl
theorem q2432 : (Jvm.Cond.code ({ cls := "MissCurvesModel", name := "isTenant", desc := "(I)Z" } : Jvm.MethodName) prog_32_method_7_code (1 : Nat) (Option.some Jvm.ClassFile.FieldType.boolean)) ∈ lw_all := lw_g (lw_at lw_m10 145 rfl) rfl
theorem q2434 : (Jvm.Cond.instanceMethod ({ cls := "MissCurvesModel", name := "top", desc := "(II)I" } : Jvm.MethodName)) ∈ lw_all := lw_g (lw_at lw_m10 147 rfl) rfl
theorem q2435 : (Jvm.Cond.selects "MissCurvesModel" ({ cls := "MissCurvesModel", name := "top", desc := "(II)I" } : Jvm.MethodName) ({ cls := "MissCurvesModel", name := "top", desc := "(II)I" } : Jvm.MethodName)) ∈ lw_all := lw_g (lw_at lw_m10 148 rfl) rfl
theorem q2436 : (Jvm.Cond.code ({ cls := "MissCurvesModel", name := "top", desc := "(II)I" } : Jvm.MethodName) prog_32_method_18_code (3 : Nat) (Option.some Jvm.ClassFile.FieldType.int)) ∈ lw_all := lw_g (lw_at lw_m10 149 rfl) rfl
theorem q2438 : (Jvm.Cond.instanceMethod ({ cls := "MissCurvesModel", name := "key", desc := "(III)I" } : Jvm.MethodName)) ∈ lw_all := lw_g (lw_at lw_m10 151 rfl) rfl
theorem q2439 : (Jvm.Cond.selects "MissCurvesModel" ({ cls := "MissCurvesModel", name := "key", desc := "(III)I" } : Jvm.MethodName) ({ cls := "MissCurvesModel", name := "key", desc := "(III)I" } : Jvm.MethodName)) ∈ lw_all := lw_g (lw_at lw_m10 152 rfl) rfl
theorem q2440 : (Jvm.Cond.code ({ cls := "MissCurvesModel", name := "key", desc := "(III)I" } : Jvm.MethodName) prog_32_method_21_code (4 : Nat) (Option.some Jvm.ClassFile.FieldType.int)) ∈ lw_all := lw_g (lw_at lw_m10 153 rfl) rfl
theorem q2441 : (Jvm.Cond.methodLink "MissCurvesModel" (156 : Nat) ({ cls := "MissCurvesModel", name := "isKey", desc := "(I)Z" } : Jvm.MethodName)) ∈ lw_all := lw_g (lw_at lw_m10 154 rfl) rfl
theorem q2442 : (Jvm.Cond.static ({ cls := "MissCurvesModel", name := "isKey", desc := "(I)Z" } : Jvm.MethodName)) ∈ lw_all := lw_g (lw_at lw_m10 155 rfl) rfl
theorem q2443 : (Jvm.Cond.code ({ cls := "MissCurvesModel", name := "isKey", desc := "(I)Z" } : Jvm.MethodName) prog_32_method_8_code (1 : Nat) (Option.some Jvm.ClassFile.FieldType.boolean)) ∈ lw_all := lw_g (lw_at lw_m10 156 rfl) rfl
theorem q2444 : (Jvm.Cond.methodLink "MissCurvesModel" (159 : Nat) ({ cls := "MissCurvesModel", name := "placeIn", desc := "(III)I" } : Jvm.MethodName)) ∈ lw_all := lw_g (lw_at lw_m10 157 rfl) rfl
theorem q2445 : (Jvm.Cond.privateMethod ({ cls := "MissCurvesModel", name := "placeIn", desc := "(III)I" } : Jvm.MethodName)) ∈ lw_tbl := lw_at lw_m10 158 rfl
theorem q2446 : (Jvm.Cond.instanceMethod ({ cls := "MissCurvesModel", name := "placeIn", desc := "(III)I" } : Jvm.MethodName)) ∈ lw_all := lw_g (lw_at lw_m10 159 rfl) rfl
theorem q2447 : (Jvm.Cond.code ({ cls := "MissCurvesModel", name := "placeIn", desc := "(III)I" } : Jvm.MethodName) prog_32_method_19_code (6 : Nat) (Option.some Jvm.ClassFile.FieldType.int)) ∈ lw_all := lw_g (lw_at lw_m10 160 rfl) rfl
theorem q2448 : (Jvm.Cond.methodLink "MissCurvesModel" (163 : Nat) ({ cls := "MissCurvesModel", name := "hashOf", desc := "(I)I" } : Jvm.MethodName)) ∈ lw_all := lw_g (lw_at lw_m10 161 rfl) rfl
theorem q2449 : (Jvm.Cond.privateMethod ({ cls := "MissCurvesModel", name := "hashOf", desc := "(I)I" } : Jvm.MethodName)) ∈ lw_tbl := lw_at lw_m10 162 rfl
theorem q2450 : (Jvm.Cond.instanceMethod ({ cls := "MissCurvesModel", name := "hashOf", desc := "(I)I" } : Jvm.MethodName)) ∈ lw_all := lw_g (lw_at lw_m10 163 rfl) rfl
theorem q2451 : (Jvm.Cond.code ({ cls := "MissCurvesModel", name := "hashOf", desc := "(I)I" } : Jvm.MethodName) prog_32_method_20_code (2 : Nat) (Option.some Jvm.ClassFile.FieldType.int)) ∈ lw_all := lw_g (lw_at lw_m10 164 rfl) rfl
theorem q2452 : (Jvm.Cond.methodLink "MissCurvesModel" (166 : Nat) ({ cls := "MissCurvesModel", name := "costsFor", desc := "(II)I" } : Jvm.MethodName)) ∈ lw_all := lw_g (lw_at lw_m10 165 rfl) rfl
theorem q2453 : (Jvm.Cond.privateMethod ({ cls := "MissCurvesModel", name := "costsFor", desc := "(II)I" } : Jvm.MethodName)) ∈ lw_tbl := lw_at lw_m10 166 rfl
theorem q2454 : (Jvm.Cond.instanceMethod ({ cls := "MissCurvesModel", name := "costsFor", desc := "(II)I" } : Jvm.MethodName)) ∈ lw_all := lw_g (lw_at lw_m10 167 rfl) rfl
theorem q2455 : (Jvm.Cond.code ({ cls := "MissCurvesModel", name := "costsFor", desc := "(II)I" } : Jvm.MethodName) prog_32_method_71_code (3 : Nat) (Option.some Jvm.ClassFile.FieldType.int)) ∈ lw_all := lw_g (lw_at lw_m10 168 rfl) rfl
theorem q2456 : (Jvm.Cond.methodLink "MissCurvesModel" (350 : Nat) ({ cls := "MissCurvesModel", name := "setsAsked", desc := "(II)V" } : Jvm.MethodName)) ∈ lw_all := lw_g (lw_at lw_m10 169 rfl) rfl
theorem q2457 : (Jvm.Cond.privateMethod ({ cls := "MissCurvesModel", name := "setsAsked", desc := "(II)V" } : Jvm.MethodName)) ∈ lw_tbl := lw_at lw_m10 170 rfl
theorem q2458 : (Jvm.Cond.instanceMethod ({ cls := "MissCurvesModel", name := "setsAsked", desc := "(II)V" } : Jvm.MethodName)) ∈ lw_all := lw_g (lw_at lw_m10 171 rfl) rfl
theorem q2459 : (Jvm.Cond.code ({ cls := "MissCurvesModel", name := "setsAsked", desc := "(II)V" } : Jvm.MethodName) prog_32_method_69_code (5 : Nat) (Option.none : Option Jvm.ClassFile.FieldType)) ∈ lw_all := lw_g (lw_at lw_m10 172 rfl) rfl
theorem q2460 : (Jvm.Cond.methodLink "MissCurvesModel" (353 : Nat) ({ cls := "MissCurvesModel", name := "tells", desc := "(II)I" } : Jvm.MethodName)) ∈ lw_all := lw_g (lw_at lw_m10 173 rfl) rfl
theorem q2461 : (Jvm.Cond.privateMethod ({ cls := "MissCurvesModel", name := "tells", desc := "(II)I" } : Jvm.MethodName)) ∈ lw_tbl := lw_at lw_m10 174 rfl
theorem q2462 : (Jvm.Cond.instanceMethod ({ cls := "MissCurvesModel", name := "tells", desc := "(II)I" } : Jvm.MethodName)) ∈ lw_all := lw_g (lw_at lw_m10 175 rfl) rfl
theorem q2463 : (Jvm.Cond.code ({ cls := "MissCurvesModel", name := "tells", desc := "(II)I" } : Jvm.MethodName) prog_32_method_70_code (10 : Nat) (Option.some Jvm.ClassFile.FieldType.int)) ∈ lw_all := lw_g (lw_at lw_m10 176 rfl) rfl
theorem q2464 : (Jvm.Cond.methodLink "MissCurvesModel" (297 : Nat) ({ cls := "MissCurvesModel", name := "codeAt", desc := "(I)I" } : Jvm.MethodName)) ∈ lw_all := lw_g (lw_at lw_m10 177 rfl) rfl
theorem q2465 : (Jvm.Cond.privateMethod ({ cls := "MissCurvesModel", name := "codeAt", desc := "(I)I" } : Jvm.MethodName)) ∈ lw_tbl := lw_at lw_m10 178 rfl
theorem q2466 : (Jvm.Cond.instanceMethod ({ cls := "MissCurvesModel", name := "codeAt", desc := "(I)I" } : Jvm.MethodName)) ∈ lw_all := lw_g (lw_at lw_m10 179 rfl) rfl
theorem q2467 : (Jvm.Cond.code ({ cls := "MissCurvesModel", name := "codeAt", desc := "(I)I" } : Jvm.MethodName) prog_32_method_58_code (2 : Nat) (Option.some Jvm.ClassFile.FieldType.int)) ∈ lw_all := lw_g (lw_at lw_m10 180 rfl) rfl
theorem q2468 : (Jvm.Cond.methodLink "MissCurvesModel" (321 : Nat) ({ cls := "MissCurvesModel", name := "sumOf", desc := "(Z)J" } : Jvm.MethodName)) ∈ lw_all := lw_g (lw_at lw_m10 181 rfl) rfl
theorem q2469 : (Jvm.Cond.privateMethod ({ cls := "MissCurvesModel", name := "sumOf", desc := "(Z)J" } : Jvm.MethodName)) ∈ lw_tbl := lw_at lw_m10 182 rfl
theorem q2470 : (Jvm.Cond.instanceMethod ({ cls := "MissCurvesModel", name := "sumOf", desc := "(Z)J" } : Jvm.MethodName)) ∈ lw_all := lw_g (lw_at lw_m10 183 rfl) rfl
theorem q2471 : (Jvm.Cond.code ({ cls := "MissCurvesModel", name := "sumOf", desc := "(Z)J" } : Jvm.MethodName) prog_32_method_61_code (7 : Nat) (Option.some Jvm.ClassFile.FieldType.long)) ∈ lw_all := lw_g (lw_at lw_m10 184 rfl) rfl
theorem q2472 : (Jvm.Cond.methodLink "MissCurvesModel" (307 : Nat) ({ cls := "MissCurvesModel", name := "termOf", desc := "(Z)J" } : Jvm.MethodName)) ∈ lw_all := lw_g (lw_at lw_m10 185 rfl) rfl
theorem q2473 : (Jvm.Cond.privateMethod ({ cls := "MissCurvesModel", name := "termOf", desc := "(Z)J" } : Jvm.MethodName)) ∈ lw_tbl := lw_at lw_m10 186 rfl
theorem q2474 : (Jvm.Cond.instanceMethod ({ cls := "MissCurvesModel", name := "termOf", desc := "(Z)J" } : Jvm.MethodName)) ∈ lw_all := lw_g (lw_at lw_m10 187 rfl) rfl
theorem q2475 : (Jvm.Cond.code ({ cls := "MissCurvesModel", name := "termOf", desc := "(Z)J" } : Jvm.MethodName) prog_32_method_62_code (7 : Nat) (Option.some Jvm.ClassFile.FieldType.long)) ∈ lw_all := lw_g (lw_at lw_m10 188 rfl) rfl
theorem q2476 : (Jvm.Cond.methodLink "MissCurvesModel" (315 : Nat) ({ cls := "MissCurvesModel", name := "partOf", desc := "(Z)J" } : Jvm.MethodName)) ∈ lw_all := lw_g (lw_at lw_m10 189 rfl) rfl
theorem q2477 : (Jvm.Cond.privateMethod ({ cls := "MissCurvesModel", name := "partOf", desc := "(Z)J" } : Jvm.MethodName)) ∈ lw_tbl := lw_at lw_m10 190 rfl
theorem q2478 : (Jvm.Cond.instanceMethod ({ cls := "MissCurvesModel", name := "partOf", desc := "(Z)J" } : Jvm.MethodName)) ∈ lw_all := lw_g (lw_at lw_m10 191 rfl) rfl
theorem q2479 : (Jvm.Cond.code ({ cls := "MissCurvesModel", name := "partOf", desc := "(Z)J" } : Jvm.MethodName) prog_32_method_63_code (4 : Nat) (Option.some Jvm.ClassFile.FieldType.long)) ∈ lw_all := lw_g (lw_at lw_m10 192 rfl) rfl
theorem q2480 : (Jvm.Cond.methodLink "MissCurvesModel" (253 : Nat) ({ cls := "MissCurvesModel", name := "signOf", desc := "(C)I" } : Jvm.MethodName)) ∈ lw_all := lw_g (lw_at lw_m10 193 rfl) rfl
theorem q2481 : (Jvm.Cond.static ({ cls := "MissCurvesModel", name := "signOf", desc := "(C)I" } : Jvm.MethodName)) ∈ lw_all := lw_g (lw_at lw_m10 194 rfl) rfl
theorem q2482 : (Jvm.Cond.code ({ cls := "MissCurvesModel", name := "signOf", desc := "(C)I" } : Jvm.MethodName) prog_32_method_38_code (1 : Nat) (Option.some Jvm.ClassFile.FieldType.int)) ∈ lw_all := lw_g (lw_at lw_m10 195 rfl) rfl
theorem q2483 : (Jvm.Cond.methodLink "MissCurvesModel" (318 : Nat) ({ cls := "MissCurvesModel", name := "passes0", desc := "(I)Z" } : Jvm.MethodName)) ∈ lw_all := lw_g (lw_at lw_m10 196 rfl) rfl
theorem q2484 : (Jvm.Cond.privateMethod ({ cls := "MissCurvesModel", name := "passes0", desc := "(I)Z" } : Jvm.MethodName)) ∈ lw_tbl := lw_at lw_m10 197 rfl
theorem q2485 : (Jvm.Cond.instanceMethod ({ cls := "MissCurvesModel", name := "passes0", desc := "(I)Z" } : Jvm.MethodName)) ∈ lw_all := lw_g (lw_at lw_m10 198 rfl) rfl
theorem q2486 : (Jvm.Cond.code ({ cls := "MissCurvesModel", name := "passes0", desc := "(I)Z" } : Jvm.MethodName) prog_32_method_59_code (3 : Nat) (Option.some Jvm.ClassFile.FieldType.boolean)) ∈ lw_all := lw_g (lw_at lw_m10 199 rfl) rfl
theorem q2487 : (Jvm.Cond.methodLink "MissCurvesModel" (327 : Nat) ({ cls := "MissCurvesModel", name := "orderValue", desc := "(II)I" } : Jvm.MethodName)) ∈ lw_all := lw_g (lw_at lw_m10 200 rfl) rfl
theorem q2488 : (Jvm.Cond.privateMethod ({ cls := "MissCurvesModel", name := "orderValue", desc := "(II)I" } : Jvm.MethodName)) ∈ lw_tbl := lw_at lw_m10 201 rfl
theorem q2489 : (Jvm.Cond.instanceMethod ({ cls := "MissCurvesModel", name := "orderValue", desc := "(II)I" } : Jvm.MethodName)) ∈ lw_all := lw_g (lw_at lw_m10 202 rfl) rfl
theorem q2490 : (Jvm.Cond.code ({ cls := "MissCurvesModel", name := "orderValue", desc := "(II)I" } : Jvm.MethodName) prog_32_method_64_code (3 : Nat) (Option.some Jvm.ClassFile.FieldType.int)) ∈ lw_all := lw_g (lw_at lw_m10 203 rfl) rfl
theorem q2491 : (Jvm.Cond.methodLink "MissCurvesModel" (311 : Nat) ({ cls := "MissCurvesModel", name := "bounded", desc := "(JZ)J" } : Jvm.MethodName)) ∈ lw_all := lw_g (lw_at lw_m10 204 rfl) rfl
theorem q2492 : (Jvm.Cond.privateMethod ({ cls := "MissCurvesModel", name := "bounded", desc := "(JZ)J" } : Jvm.MethodName)) ∈ lw_tbl := lw_at lw_m10 205 rfl
theorem q2493 : (Jvm.Cond.instanceMethod ({ cls := "MissCurvesModel", name := "bounded", desc := "(JZ)J" } : Jvm.MethodName)) ∈ lw_all := lw_g (lw_at lw_m10 206 rfl) rfl
theorem q2494 : (Jvm.Cond.code ({ cls := "MissCurvesModel", name := "bounded", desc := "(JZ)J" } : Jvm.MethodName) prog_32_method_60_code (4 : Nat) (Option.some Jvm.ClassFile.FieldType.long)) ∈ lw_all := lw_g (lw_at lw_m10 207 rfl) rfl
theorem q2495 : (Jvm.Cond.constantLong "MissCurvesModel" (300 : Nat) (1000000000 : Int64)) ∈ lw_all := lw_g (lw_at lw_m10 208 rfl) rfl
theorem q2496 : (Jvm.Cond.constantLong "MissCurvesModel" (302 : Nat) (-1000000000 : Int64)) ∈ lw_all := lw_g (lw_at lw_m10 209 rfl) rfl
theorem q2497 : (Jvm.Cond.methodLink "MissCurvesModel" (345 : Nat) ({ cls := "MissCurvesModel", name := "testOf", desc := "(Z)Z" } : Jvm.MethodName)) ∈ lw_all := lw_g (lw_at lw_m10 210 rfl) rfl
theorem q2498 : (Jvm.Cond.privateMethod ({ cls := "MissCurvesModel", name := "testOf", desc := "(Z)Z" } : Jvm.MethodName)) ∈ lw_tbl := lw_at lw_m10 211 rfl
theorem q2499 : (Jvm.Cond.instanceMethod ({ cls := "MissCurvesModel", name := "testOf", desc := "(Z)Z" } : Jvm.MethodName)) ∈ lw_all := lw_g (lw_at lw_m10 212 rfl) rfl
theorem q2500 : (Jvm.Cond.code ({ cls := "MissCurvesModel", name := "testOf", desc := "(Z)Z" } : Jvm.MethodName) prog_32_method_65_code (4 : Nat) (Option.some Jvm.ClassFile.FieldType.boolean)) ∈ lw_all := lw_g (lw_at lw_m10 213 rfl) rfl
theorem q2501 : (Jvm.Cond.methodLink "MissCurvesModel" (336 : Nat) ({ cls := "MissCurvesModel", name := "bothOf", desc := "(Z)Z" } : Jvm.MethodName)) ∈ lw_all := lw_g (lw_at lw_m10 214 rfl) rfl
theorem q2502 : (Jvm.Cond.privateMethod ({ cls := "MissCurvesModel", name := "bothOf", desc := "(Z)Z" } : Jvm.MethodName)) ∈ lw_tbl := lw_at lw_m10 215 rfl
theorem q2503 : (Jvm.Cond.instanceMethod ({ cls := "MissCurvesModel", name := "bothOf", desc := "(Z)Z" } : Jvm.MethodName)) ∈ lw_all := lw_g (lw_at lw_m10 216 rfl) rfl
theorem q2504 : (Jvm.Cond.code ({ cls := "MissCurvesModel", name := "bothOf", desc := "(Z)Z" } : Jvm.MethodName) prog_32_method_66_code (4 : Nat) (Option.some Jvm.ClassFile.FieldType.boolean)) ∈ lw_all := lw_g (lw_at lw_m10 217 rfl) rfl
theorem q2505 : (Jvm.Cond.methodLink "MissCurvesModel" (339 : Nat) ({ cls := "MissCurvesModel", name := "plainOf", desc := "(Z)Z" } : Jvm.MethodName)) ∈ lw_all := lw_g (lw_at lw_m10 218 rfl) rfl
theorem q2506 : (Jvm.Cond.privateMethod ({ cls := "MissCurvesModel", name := "plainOf", desc := "(Z)Z" } : Jvm.MethodName)) ∈ lw_tbl := lw_at lw_m10 219 rfl
theorem q2507 : (Jvm.Cond.instanceMethod ({ cls := "MissCurvesModel", name := "plainOf", desc := "(Z)Z" } : Jvm.MethodName)) ∈ lw_all := lw_g (lw_at lw_m10 220 rfl) rfl
theorem q2508 : (Jvm.Cond.code ({ cls := "MissCurvesModel", name := "plainOf", desc := "(Z)Z" } : Jvm.MethodName) prog_32_method_67_code (3 : Nat) (Option.some Jvm.ClassFile.FieldType.boolean)) ∈ lw_all := lw_g (lw_at lw_m10 221 rfl) rfl
theorem q2509 : (Jvm.Cond.methodLink "MissCurvesModel" (342 : Nat) ({ cls := "MissCurvesModel", name := "positiveOf", desc := "(Z)Z" } : Jvm.MethodName)) ∈ lw_all := lw_g (lw_at lw_m10 222 rfl) rfl
theorem q2510 : (Jvm.Cond.privateMethod ({ cls := "MissCurvesModel", name := "positiveOf", desc := "(Z)Z" } : Jvm.MethodName)) ∈ lw_tbl := lw_at lw_m10 223 rfl
theorem q2511 : (Jvm.Cond.instanceMethod ({ cls := "MissCurvesModel", name := "positiveOf", desc := "(Z)Z" } : Jvm.MethodName)) ∈ lw_all := lw_g (lw_at lw_m10 224 rfl) rfl
theorem q2512 : (Jvm.Cond.code ({ cls := "MissCurvesModel", name := "positiveOf", desc := "(Z)Z" } : Jvm.MethodName) prog_32_method_68_code (7 : Nat) (Option.some Jvm.ClassFile.FieldType.boolean)) ∈ lw_all := lw_g (lw_at lw_m10 225 rfl) rfl
theorem q2513 : (Jvm.Cond.constantLong "MissCurvesModel" (348 : Nat) (99 : Int64)) ∈ lw_all := lw_g (lw_at lw_m10 226 rfl) rfl
theorem q2514 : (Jvm.Cond.methodLink "MissCurvesModel" (169 : Nat) ({ cls := "MissCurvesModel", name := "isBarred", desc := "(II)Z" } : Jvm.MethodName)) ∈ lw_all := lw_g (lw_at lw_m10 227 rfl) rfl
theorem q2515 : (Jvm.Cond.privateMethod ({ cls := "MissCurvesModel", name := "isBarred", desc := "(II)Z" } : Jvm.MethodName)) ∈ lw_tbl := lw_at lw_m10 228 rfl
theorem q2516 : (Jvm.Cond.instanceMethod ({ cls := "MissCurvesModel", name := "isBarred", desc := "(II)Z" } : Jvm.MethodName)) ∈ lw_all := lw_g (lw_at lw_m10 229 rfl) rfl
theorem q2517 : (Jvm.Cond.code ({ cls := "MissCurvesModel", name := "isBarred", desc := "(II)Z" } : Jvm.MethodName) prog_32_method_72_code (3 : Nat) (Option.some Jvm.ClassFile.FieldType.boolean)) ∈ lw_all := lw_g (lw_at lw_m10 230 rfl) rfl
theorem q2519 : (Jvm.Cond.instanceMethod ({ cls := "MissCurvesModel", name := "terms", desc := "(II)I" } : Jvm.MethodName)) ∈ lw_all := lw_g (lw_at lw_m10 232 rfl) rfl
theorem q2520 : (Jvm.Cond.selects "MissCurvesModel" ({ cls := "MissCurvesModel", name := "terms", desc := "(II)I" } : Jvm.MethodName) ({ cls := "MissCurvesModel", name := "terms", desc := "(II)I" } : Jvm.MethodName)) ∈ lw_all := lw_g (lw_at lw_m10 233 rfl) rfl
theorem q2521 : (Jvm.Cond.code ({ cls := "MissCurvesModel", name := "terms", desc := "(II)I" } : Jvm.MethodName) prog_32_method_24_code (4 : Nat) (Option.some Jvm.ClassFile.FieldType.int)) ∈ lw_all := lw_g (lw_at lw_m10 234 rfl) rfl
theorem q2522 : (Jvm.Cond.methodLink "MissCurvesModel" (173 : Nat) ({ cls := "MissCurvesModel", name := "isTerm", desc := "(II)Z" } : Jvm.MethodName)) ∈ lw_all := lw_g (lw_at lw_m10 235 rfl) rfl
theorem q2523 : (Jvm.Cond.static ({ cls := "MissCurvesModel", name := "isTerm", desc := "(II)Z" } : Jvm.MethodName)) ∈ lw_all := lw_g (lw_at lw_m10 236 rfl) rfl
theorem q2524 : (Jvm.Cond.code ({ cls := "MissCurvesModel", name := "isTerm", desc := "(II)Z" } : Jvm.MethodName) prog_32_method_22_code (2 : Nat) (Option.some Jvm.ClassFile.FieldType.boolean)) ∈ lw_all := lw_g (lw_at lw_m10 237 rfl) rfl
theorem q2525 : (Jvm.Cond.methodLink "MissCurvesModel" (176 : Nat) ({ cls := "MissCurvesModel", name := "termAt", desc := "(I)I" } : Jvm.MethodName)) ∈ lw_all := lw_g (lw_at lw_m10 238 rfl) rfl
theorem q2526 : (Jvm.Cond.static ({ cls := "MissCurvesModel", name := "termAt", desc := "(I)I" } : Jvm.MethodName)) ∈ lw_all := lw_g (lw_at lw_m10 239 rfl) rfl
theorem q2527 : (Jvm.Cond.code ({ cls := "MissCurvesModel", name := "termAt", desc := "(I)I" } : Jvm.MethodName) prog_32_method_23_code (1 : Nat) (Option.some Jvm.ClassFile.FieldType.int)) ∈ lw_all := lw_g (lw_at lw_m11 0 rfl) rfl
theorem q2529 : (Jvm.Cond.instanceMethod ({ cls := "MissCurvesModel", name := "row", desc := "()I" } : Jvm.MethodName)) ∈ lw_all := lw_g (lw_at lw_m11 2 rfl) rfl
theorem q2530 : (Jvm.Cond.selects "MissCurvesModel" ({ cls := "MissCurvesModel", name := "row", desc := "()I" } : Jvm.MethodName) ({ cls := "MissCurvesModel", name := "row", desc := "()I" } : Jvm.MethodName)) ∈ lw_all := lw_g (lw_at lw_m11 3 rfl) rfl
theorem q2531 : (Jvm.Cond.code ({ cls := "MissCurvesModel", name := "row", desc := "()I" } : Jvm.MethodName) prog_32_method_25_code (5 : Nat) (Option.some Jvm.ClassFile.FieldType.int)) ∈ lw_all := lw_g (lw_at lw_m11 4 rfl) rfl
theorem q2532 : (Jvm.Cond.methodLink "MissCurvesModel" (185 : Nat) ({ cls := "MissCurvesModel", name := "readsKey", desc := "(II)I" } : Jvm.MethodName)) ∈ lw_all := lw_g (lw_at lw_m11 5 rfl) rfl
theorem q2533 : (Jvm.Cond.privateMethod ({ cls := "MissCurvesModel", name := "readsKey", desc := "(II)I" } : Jvm.MethodName)) ∈ lw_tbl := lw_at lw_m11 6 rfl
theorem q2534 : (Jvm.Cond.instanceMethod ({ cls := "MissCurvesModel", name := "readsKey", desc := "(II)I" } : Jvm.MethodName)) ∈ lw_all := lw_g (lw_at lw_m11 7 rfl) rfl
theorem q2535 : (Jvm.Cond.code ({ cls := "MissCurvesModel", name := "readsKey", desc := "(II)I" } : Jvm.MethodName) prog_32_method_76_code (5 : Nat) (Option.some Jvm.ClassFile.FieldType.int)) ∈ lw_all := lw_g (lw_at lw_m11 8 rfl) rfl
theorem q2536 : (Jvm.Cond.methodLink "MissCurvesModel" (356 : Nat) ({ cls := "MissCurvesModel", name := "goesOut", desc := "(III)V" } : Jvm.MethodName)) ∈ lw_all := lw_g (lw_at lw_m11 9 rfl) rfl
theorem q2537 : (Jvm.Cond.privateMethod ({ cls := "MissCurvesModel", name := "goesOut", desc := "(III)V" } : Jvm.MethodName)) ∈ lw_tbl := lw_at lw_m11 10 rfl
theorem q2538 : (Jvm.Cond.instanceMethod ({ cls := "MissCurvesModel", name := "goesOut", desc := "(III)V" } : Jvm.MethodName)) ∈ lw_all := lw_g (lw_at lw_m11 11 rfl) rfl
theorem q2539 : (Jvm.Cond.code ({ cls := "MissCurvesModel", name := "goesOut", desc := "(III)V" } : Jvm.MethodName) prog_32_method_73_code (6 : Nat) (Option.none : Option Jvm.ClassFile.FieldType)) ∈ lw_all := lw_g (lw_at lw_m11 12 rfl) rfl
theorem q2540 : (Jvm.Cond.methodLink "MissCurvesModel" (360 : Nat) ({ cls := "MissCurvesModel", name := "comesFirst", desc := "(III)V" } : Jvm.MethodName)) ∈ lw_all := lw_g (lw_at lw_m11 13 rfl) rfl
theorem q2541 : (Jvm.Cond.privateMethod ({ cls := "MissCurvesModel", name := "comesFirst", desc := "(III)V" } : Jvm.MethodName)) ∈ lw_tbl := lw_at lw_m11 14 rfl
theorem q2542 : (Jvm.Cond.instanceMethod ({ cls := "MissCurvesModel", name := "comesFirst", desc := "(III)V" } : Jvm.MethodName)) ∈ lw_all := lw_g (lw_at lw_m11 15 rfl) rfl
theorem q2543 : (Jvm.Cond.code ({ cls := "MissCurvesModel", name := "comesFirst", desc := "(III)V" } : Jvm.MethodName) prog_32_method_74_code (6 : Nat) (Option.none : Option Jvm.ClassFile.FieldType)) ∈ lw_all := lw_g (lw_at lw_m11 16 rfl) rfl
theorem q2544 : (Jvm.Cond.methodLink "MissCurvesModel" (363 : Nat) ({ cls := "MissCurvesModel", name := "comesLast", desc := "(III)V" } : Jvm.MethodName)) ∈ lw_all := lw_g (lw_at lw_m11 17 rfl) rfl
theorem q2545 : (Jvm.Cond.privateMethod ({ cls := "MissCurvesModel", name := "comesLast", desc := "(III)V" } : Jvm.MethodName)) ∈ lw_tbl := lw_at lw_m11 18 rfl
theorem q2546 : (Jvm.Cond.instanceMethod ({ cls := "MissCurvesModel", name := "comesLast", desc := "(III)V" } : Jvm.MethodName)) ∈ lw_all := lw_g (lw_at lw_m11 19 rfl) rfl
theorem q2547 : (Jvm.Cond.code ({ cls := "MissCurvesModel", name := "comesLast", desc := "(III)V" } : Jvm.MethodName) prog_32_method_75_code (5 : Nat) (Option.none : Option Jvm.ClassFile.FieldType)) ∈ lw_all := lw_g (lw_at lw_m11 20 rfl) rfl
theorem q2548 : (Jvm.Cond.methodLink "MissCurvesModel" (366 : Nat) ({ cls := "MissCurvesModel", name := "samples", desc := "(III)V" } : Jvm.MethodName)) ∈ lw_all := lw_g (lw_at lw_m11 21 rfl) rfl
theorem q2549 : (Jvm.Cond.privateMethod ({ cls := "MissCurvesModel", name := "samples", desc := "(III)V" } : Jvm.MethodName)) ∈ lw_tbl := lw_at lw_m11 22 rfl
theorem q2550 : (Jvm.Cond.instanceMethod ({ cls := "MissCurvesModel", name := "samples", desc := "(III)V" } : Jvm.MethodName)) ∈ lw_all := lw_g (lw_at lw_m11 23 rfl) rfl
theorem q2551 : (Jvm.Cond.code ({ cls := "MissCurvesModel", name := "samples", desc := "(III)V" } : Jvm.MethodName) prog_32_method_77_code (7 : Nat) (Option.none : Option Jvm.ClassFile.FieldType)) ∈ lw_all := lw_g (lw_at lw_m11 24 rfl) rfl
theorem q2552 : (Jvm.Cond.constantLong "MissCurvesModel" (369 : Nat) (1000000 : Int64)) ∈ lw_all := lw_g (lw_at lw_m11 25 rfl) rfl
theorem q2553 : (Jvm.Cond.methodLink "MissCurvesModel" (371 : Nat) ({ cls := "MissCurvesModel", name := "thins", desc := "(I)V" } : Jvm.MethodName)) ∈ lw_all := lw_g (lw_at lw_m11 26 rfl) rfl
theorem q2554 : (Jvm.Cond.privateMethod ({ cls := "MissCurvesModel", name := "thins", desc := "(I)V" } : Jvm.MethodName)) ∈ lw_tbl := lw_at lw_m11 27 rfl
theorem q2555 : (Jvm.Cond.instanceMethod ({ cls := "MissCurvesModel", name := "thins", desc := "(I)V" } : Jvm.MethodName)) ∈ lw_all := lw_g (lw_at lw_m11 28 rfl) rfl
theorem q2556 : (Jvm.Cond.code ({ cls := "MissCurvesModel", name := "thins", desc := "(I)V" } : Jvm.MethodName) prog_32_method_78_code (4 : Nat) (Option.none : Option Jvm.ClassFile.FieldType)) ∈ lw_all := lw_g (lw_at lw_m11 29 rfl) rfl
theorem q2557 : (Jvm.Cond.methodLink "MissCurvesModel" (374 : Nat) ({ cls := "MissCurvesModel", name := "greater", desc := "(II)I" } : Jvm.MethodName)) ∈ lw_all := lw_g (lw_at lw_m11 30 rfl) rfl
theorem q2558 : (Jvm.Cond.static ({ cls := "MissCurvesModel", name := "greater", desc := "(II)I" } : Jvm.MethodName)) ∈ lw_all := lw_g (lw_at lw_m11 31 rfl) rfl
theorem q2559 : (Jvm.Cond.code ({ cls := "MissCurvesModel", name := "greater", desc := "(II)I" } : Jvm.MethodName) prog_32_method_2_code (2 : Nat) (Option.some Jvm.ClassFile.FieldType.int)) ∈ lw_all := lw_g (lw_at lw_m11 32 rfl) rfl
theorem q2561 : (Jvm.Cond.instanceMethod ({ cls := "MissCurvesModel", name := "blanks", desc := "()I" } : Jvm.MethodName)) ∈ lw_all := lw_g (lw_at lw_m11 34 rfl) rfl
theorem q2562 : (Jvm.Cond.selects "MissCurvesModel" ({ cls := "MissCurvesModel", name := "blanks", desc := "()I" } : Jvm.MethodName) ({ cls := "MissCurvesModel", name := "blanks", desc := "()I" } : Jvm.MethodName)) ∈ lw_all := lw_g (lw_at lw_m11 35 rfl) rfl
theorem q2563 : (Jvm.Cond.code ({ cls := "MissCurvesModel", name := "blanks", desc := "()I" } : Jvm.MethodName) prog_32_method_26_code (1 : Nat) (Option.some Jvm.ClassFile.FieldType.int)) ∈ lw_all := lw_g (lw_at lw_m11 36 rfl) rfl
theorem q2565 : (Jvm.Cond.instanceMethod ({ cls := "MissCurvesModel", name := "feed", desc := "(IIIII)I" } : Jvm.MethodName)) ∈ lw_all := lw_g (lw_at lw_m11 38 rfl) rfl
theorem q2566 : (Jvm.Cond.selects "MissCurvesModel" ({ cls := "MissCurvesModel", name := "feed", desc := "(IIIII)I" } : Jvm.MethodName) ({ cls := "MissCurvesModel", name := "feed", desc := "(IIIII)I" } : Jvm.MethodName)) ∈ lw_all := lw_g (lw_at lw_m11 39 rfl) rfl
theorem q2567 : (Jvm.Cond.code ({ cls := "MissCurvesModel", name := "feed", desc := "(IIIII)I" } : Jvm.MethodName) prog_32_method_27_code (7 : Nat) (Option.some Jvm.ClassFile.FieldType.int)) ∈ lw_all := lw_g (lw_at lw_m11 40 rfl) rfl
theorem q2569 : (Jvm.Cond.instanceMethod ({ cls := "MissCurvesModel", name := "end", desc := "(I)I" } : Jvm.MethodName)) ∈ lw_all := lw_g (lw_at lw_m11 42 rfl) rfl
theorem q2570 : (Jvm.Cond.selects "MissCurvesModel" ({ cls := "MissCurvesModel", name := "end", desc := "(I)I" } : Jvm.MethodName) ({ cls := "MissCurvesModel", name := "end", desc := "(I)I" } : Jvm.MethodName)) ∈ lw_all := lw_g (lw_at lw_m11 43 rfl) rfl
theorem q2571 : (Jvm.Cond.code ({ cls := "MissCurvesModel", name := "end", desc := "(I)I" } : Jvm.MethodName) prog_32_method_28_code (2 : Nat) (Option.some Jvm.ClassFile.FieldType.int)) ∈ lw_all := lw_g (lw_at lw_m11 44 rfl) rfl
theorem q2573 : (Jvm.Cond.instanceMethod ({ cls := "MissCurvesModel", name := "policy", desc := "()I" } : Jvm.MethodName)) ∈ lw_all := lw_g (lw_at lw_m11 46 rfl) rfl
theorem q2574 : (Jvm.Cond.selects "MissCurvesModel" ({ cls := "MissCurvesModel", name := "policy", desc := "()I" } : Jvm.MethodName) ({ cls := "MissCurvesModel", name := "policy", desc := "()I" } : Jvm.MethodName)) ∈ lw_all := lw_g (lw_at lw_m11 47 rfl) rfl
theorem q2575 : (Jvm.Cond.code ({ cls := "MissCurvesModel", name := "policy", desc := "()I" } : Jvm.MethodName) prog_32_method_53_code (2 : Nat) (Option.some Jvm.ClassFile.FieldType.int)) ∈ lw_all := lw_g (lw_at lw_m11 48 rfl) rfl
theorem q2576 : (Jvm.Cond.methodLink "MissCurvesModel" (272 : Nat) ({ cls := "MissCurvesModel", name := "splits", desc := "(I)V" } : Jvm.MethodName)) ∈ lw_all := lw_g (lw_at lw_m11 49 rfl) rfl
theorem q2577 : (Jvm.Cond.privateMethod ({ cls := "MissCurvesModel", name := "splits", desc := "(I)V" } : Jvm.MethodName)) ∈ lw_tbl := lw_at lw_m11 50 rfl
theorem q2578 : (Jvm.Cond.instanceMethod ({ cls := "MissCurvesModel", name := "splits", desc := "(I)V" } : Jvm.MethodName)) ∈ lw_all := lw_g (lw_at lw_m11 51 rfl) rfl
theorem q2579 : (Jvm.Cond.code ({ cls := "MissCurvesModel", name := "splits", desc := "(I)V" } : Jvm.MethodName) prog_32_method_32_code (6 : Nat) (Option.none : Option Jvm.ClassFile.FieldType)) ∈ lw_all := lw_g (lw_at lw_m11 52 rfl) rfl
theorem q2580 : (Jvm.Cond.methodLink "MissCurvesModel" (191 : Nat) ({ cls := "MissCurvesModel", name := "isSmall", desc := "(I)Z" } : Jvm.MethodName)) ∈ lw_all := lw_g (lw_at lw_m11 53 rfl) rfl
theorem q2581 : (Jvm.Cond.static ({ cls := "MissCurvesModel", name := "isSmall", desc := "(I)Z" } : Jvm.MethodName)) ∈ lw_all := lw_g (lw_at lw_m11 54 rfl) rfl
theorem q2582 : (Jvm.Cond.code ({ cls := "MissCurvesModel", name := "isSmall", desc := "(I)Z" } : Jvm.MethodName) prog_32_method_29_code (1 : Nat) (Option.some Jvm.ClassFile.FieldType.boolean)) ∈ lw_all := lw_g (lw_at lw_m11 55 rfl) rfl
theorem q2583 : (Jvm.Cond.methodLink "MissCurvesModel" (194 : Nat) ({ cls := "MissCurvesModel", name := "isDigit", desc := "(I)Z" } : Jvm.MethodName)) ∈ lw_all := lw_g (lw_at lw_m11 56 rfl) rfl
theorem q2584 : (Jvm.Cond.static ({ cls := "MissCurvesModel", name := "isDigit", desc := "(I)Z" } : Jvm.MethodName)) ∈ lw_all := lw_g (lw_at lw_m11 57 rfl) rfl
theorem q2585 : (Jvm.Cond.code ({ cls := "MissCurvesModel", name := "isDigit", desc := "(I)Z" } : Jvm.MethodName) prog_32_method_30_code (1 : Nat) (Option.some Jvm.ClassFile.FieldType.boolean)) ∈ lw_all := lw_g (lw_at lw_m11 58 rfl) rfl
theorem q2586 : (Jvm.Cond.methodLink "MissCurvesModel" (197 : Nat) ({ cls := "MissCurvesModel", name := "wordOf", desc := "(II)I" } : Jvm.MethodName)) ∈ lw_all := lw_g (lw_at lw_m11 59 rfl) rfl
theorem q2587 : (Jvm.Cond.privateMethod ({ cls := "MissCurvesModel", name := "wordOf", desc := "(II)I" } : Jvm.MethodName)) ∈ lw_tbl := lw_at lw_m11 60 rfl
theorem q2588 : (Jvm.Cond.instanceMethod ({ cls := "MissCurvesModel", name := "wordOf", desc := "(II)I" } : Jvm.MethodName)) ∈ lw_all := lw_g (lw_at lw_m11 61 rfl) rfl
theorem q2589 : (Jvm.Cond.code ({ cls := "MissCurvesModel", name := "wordOf", desc := "(II)I" } : Jvm.MethodName) prog_32_method_31_code (8 : Nat) (Option.some Jvm.ClassFile.FieldType.int)) ∈ lw_all := lw_g (lw_at lw_m11 62 rfl) rfl
theorem q2590 : (Jvm.Cond.constant "MissCurvesModel" (200 : Nat) (1000000 : Int32)) ∈ lw_all := lw_g (lw_at lw_m11 63 rfl) rfl
theorem q2591 : (Jvm.Cond.methodLink "MissCurvesModel" (214 : Nat) ({ cls := "MissCurvesModel", name := "faults", desc := "()V" } : Jvm.MethodName)) ∈ lw_all := lw_g (lw_at lw_m11 64 rfl) rfl
theorem q2592 : (Jvm.Cond.privateMethod ({ cls := "MissCurvesModel", name := "faults", desc := "()V" } : Jvm.MethodName)) ∈ lw_tbl := lw_at lw_m11 65 rfl
theorem q2593 : (Jvm.Cond.instanceMethod ({ cls := "MissCurvesModel", name := "faults", desc := "()V" } : Jvm.MethodName)) ∈ lw_all := lw_g (lw_at lw_m11 66 rfl) rfl
theorem q2594 : (Jvm.Cond.code ({ cls := "MissCurvesModel", name := "faults", desc := "()V" } : Jvm.MethodName) prog_32_method_34_code (1 : Nat) (Option.none : Option Jvm.ClassFile.FieldType)) ∈ lw_all := lw_g (lw_at lw_m11 67 rfl) rfl
theorem q2595 : (Jvm.Cond.methodLink "MissCurvesModel" (204 : Nat) ({ cls := "MissCurvesModel", name := "fine", desc := "()Z" } : Jvm.MethodName)) ∈ lw_all := lw_g (lw_at lw_m11 68 rfl) rfl
theorem q2596 : (Jvm.Cond.privateMethod ({ cls := "MissCurvesModel", name := "fine", desc := "()Z" } : Jvm.MethodName)) ∈ lw_tbl := lw_at lw_m11 69 rfl
theorem q2597 : (Jvm.Cond.instanceMethod ({ cls := "MissCurvesModel", name := "fine", desc := "()Z" } : Jvm.MethodName)) ∈ lw_all := lw_g (lw_at lw_m11 70 rfl) rfl
theorem q2598 : (Jvm.Cond.code ({ cls := "MissCurvesModel", name := "fine", desc := "()Z" } : Jvm.MethodName) prog_32_method_33_code (1 : Nat) (Option.some Jvm.ClassFile.FieldType.boolean)) ∈ lw_all := lw_g (lw_at lw_m11 71 rfl) rfl
theorem q2600 : (Jvm.Cond.instanceMethod ({ cls := "MissCurvesModel", name := "law", desc := "()I" } : Jvm.MethodName)) ∈ lw_all := lw_g (lw_at lw_m11 73 rfl) rfl
theorem q2601 : (Jvm.Cond.selects "MissCurvesModel" ({ cls := "MissCurvesModel", name := "law", desc := "()I" } : Jvm.MethodName) ({ cls := "MissCurvesModel", name := "law", desc := "()I" } : Jvm.MethodName)) ∈ lw_all := lw_g (lw_at lw_m11 74 rfl) rfl
theorem q2602 : (Jvm.Cond.code ({ cls := "MissCurvesModel", name := "law", desc := "()I" } : Jvm.MethodName) prog_32_method_54_code (1 : Nat) (Option.some Jvm.ClassFile.FieldType.int)) ∈ lw_all := lw_g (lw_at lw_m11 75 rfl) rfl
theorem q2603 : (Jvm.Cond.methodLink "MissCurvesModel" (281 : Nat) ({ cls := "MissCurvesModel", name := "readsAs", desc := "(Z)Z" } : Jvm.MethodName)) ∈ lw_all := lw_g (lw_at lw_m11 76 rfl) rfl
theorem q2604 : (Jvm.Cond.privateMethod ({ cls := "MissCurvesModel", name := "readsAs", desc := "(Z)Z" } : Jvm.MethodName)) ∈ lw_tbl := lw_at lw_m11 77 rfl
theorem q2605 : (Jvm.Cond.instanceMethod ({ cls := "MissCurvesModel", name := "readsAs", desc := "(Z)Z" } : Jvm.MethodName)) ∈ lw_all := lw_g (lw_at lw_m11 78 rfl) rfl
theorem q2606 : (Jvm.Cond.code ({ cls := "MissCurvesModel", name := "readsAs", desc := "(Z)Z" } : Jvm.MethodName) prog_32_method_51_code (2 : Nat) (Option.some Jvm.ClassFile.FieldType.boolean)) ∈ lw_all := lw_g (lw_at lw_m11 79 rfl) rfl
theorem q2607 : (Jvm.Cond.methodLink "MissCurvesModel" (278 : Nat) ({ cls := "MissCurvesModel", name := "reads", desc := "()Z" } : Jvm.MethodName)) ∈ lw_all := lw_g (lw_at lw_m11 80 rfl) rfl
theorem q2608 : (Jvm.Cond.privateMethod ({ cls := "MissCurvesModel", name := "reads", desc := "()Z" } : Jvm.MethodName)) ∈ lw_tbl := lw_at lw_m11 81 rfl
theorem q2609 : (Jvm.Cond.instanceMethod ({ cls := "MissCurvesModel", name := "reads", desc := "()Z" } : Jvm.MethodName)) ∈ lw_all := lw_g (lw_at lw_m11 82 rfl) rfl
theorem q2610 : (Jvm.Cond.code ({ cls := "MissCurvesModel", name := "reads", desc := "()Z" } : Jvm.MethodName) prog_32_method_50_code (2 : Nat) (Option.some Jvm.ClassFile.FieldType.boolean)) ∈ lw_all := lw_g (lw_at lw_m11 83 rfl) rfl
theorem q2611 : (Jvm.Cond.methodLink "MissCurvesModel" (275 : Nat) ({ cls := "MissCurvesModel", name := "readOne", desc := "()V" } : Jvm.MethodName)) ∈ lw_all := lw_g (lw_at lw_m11 84 rfl) rfl
theorem q2612 : (Jvm.Cond.privateMethod ({ cls := "MissCurvesModel", name := "readOne", desc := "()V" } : Jvm.MethodName)) ∈ lw_tbl := lw_at lw_m11 85 rfl
theorem q2613 : (Jvm.Cond.instanceMethod ({ cls := "MissCurvesModel", name := "readOne", desc := "()V" } : Jvm.MethodName)) ∈ lw_all := lw_g (lw_at lw_m11 86 rfl) rfl
theorem q2614 : (Jvm.Cond.code ({ cls := "MissCurvesModel", name := "readOne", desc := "()V" } : Jvm.MethodName) prog_32_method_43_code (1 : Nat) (Option.none : Option Jvm.ClassFile.FieldType)) ∈ lw_all := lw_g (lw_at lw_m11 87 rfl) rfl
theorem q2615 : (Jvm.Cond.methodLink "MissCurvesModel" (241 : Nat) ({ cls := "MissCurvesModel", name := "readOrder", desc := "()V" } : Jvm.MethodName)) ∈ lw_all := lw_g (lw_at lw_m11 88 rfl) rfl
theorem q2616 : (Jvm.Cond.privateMethod ({ cls := "MissCurvesModel", name := "readOrder", desc := "()V" } : Jvm.MethodName)) ∈ lw_tbl := lw_at lw_m11 89 rfl
theorem q2617 : (Jvm.Cond.instanceMethod ({ cls := "MissCurvesModel", name := "readOrder", desc := "()V" } : Jvm.MethodName)) ∈ lw_all := lw_g (lw_at lw_m11 90 rfl) rfl
theorem q2618 : (Jvm.Cond.code ({ cls := "MissCurvesModel", name := "readOrder", desc := "()V" } : Jvm.MethodName) prog_32_method_42_code (1 : Nat) (Option.none : Option Jvm.ClassFile.FieldType)) ∈ lw_all := lw_g (lw_at lw_m11 91 rfl) rfl
theorem q2619 : (Jvm.Cond.methodLink "MissCurvesModel" (211 : Nat) ({ cls := "MissCurvesModel", name := "takes0", desc := "(I)Z" } : Jvm.MethodName)) ∈ lw_all := lw_g (lw_at lw_m11 92 rfl) rfl
theorem q2620 : (Jvm.Cond.privateMethod ({ cls := "MissCurvesModel", name := "takes0", desc := "(I)Z" } : Jvm.MethodName)) ∈ lw_tbl := lw_at lw_m11 93 rfl
theorem q2621 : (Jvm.Cond.instanceMethod ({ cls := "MissCurvesModel", name := "takes0", desc := "(I)Z" } : Jvm.MethodName)) ∈ lw_all := lw_g (lw_at lw_m11 94 rfl) rfl
theorem q2622 : (Jvm.Cond.code ({ cls := "MissCurvesModel", name := "takes0", desc := "(I)Z" } : Jvm.MethodName) prog_32_method_35_code (3 : Nat) (Option.some Jvm.ClassFile.FieldType.boolean)) ∈ lw_all := lw_g (lw_at lw_m11 95 rfl) rfl
theorem q2623 : (Jvm.Cond.methodLink "MissCurvesModel" (220 : Nat) ({ cls := "MissCurvesModel", name := "readSum", desc := "(I)V" } : Jvm.MethodName)) ∈ lw_all := lw_g (lw_at lw_m11 96 rfl) rfl
theorem q2624 : (Jvm.Cond.privateMethod ({ cls := "MissCurvesModel", name := "readSum", desc := "(I)V" } : Jvm.MethodName)) ∈ lw_tbl := lw_at lw_m11 97 rfl
theorem q2625 : (Jvm.Cond.instanceMethod ({ cls := "MissCurvesModel", name := "readSum", desc := "(I)V" } : Jvm.MethodName)) ∈ lw_all := lw_g (lw_at lw_m11 98 rfl) rfl
theorem q2626 : (Jvm.Cond.code ({ cls := "MissCurvesModel", name := "readSum", desc := "(I)V" } : Jvm.MethodName) prog_32_method_47_code (2 : Nat) (Option.none : Option Jvm.ClassFile.FieldType)) ∈ lw_all := lw_g (lw_at lw_m11 99 rfl) rfl
theorem q2627 : (Jvm.Cond.methodLink "MissCurvesModel" (257 : Nat) ({ cls := "MissCurvesModel", name := "readTerm", desc := "(I)V" } : Jvm.MethodName)) ∈ lw_all := lw_g (lw_at lw_m11 100 rfl) rfl
theorem q2628 : (Jvm.Cond.privateMethod ({ cls := "MissCurvesModel", name := "readTerm", desc := "(I)V" } : Jvm.MethodName)) ∈ lw_tbl := lw_at lw_m11 101 rfl
theorem q2629 : (Jvm.Cond.instanceMethod ({ cls := "MissCurvesModel", name := "readTerm", desc := "(I)V" } : Jvm.MethodName)) ∈ lw_all := lw_g (lw_at lw_m11 102 rfl) rfl
theorem q2630 : (Jvm.Cond.code ({ cls := "MissCurvesModel", name := "readTerm", desc := "(I)V" } : Jvm.MethodName) prog_32_method_48_code (2 : Nat) (Option.none : Option Jvm.ClassFile.FieldType)) ∈ lw_all := lw_g (lw_at lw_m11 103 rfl) rfl
theorem q2631 : (Jvm.Cond.methodLink "MissCurvesModel" (260 : Nat) ({ cls := "MissCurvesModel", name := "readPart", desc := "(I)V" } : Jvm.MethodName)) ∈ lw_all := lw_g (lw_at lw_m11 104 rfl) rfl
theorem q2632 : (Jvm.Cond.privateMethod ({ cls := "MissCurvesModel", name := "readPart", desc := "(I)V" } : Jvm.MethodName)) ∈ lw_tbl := lw_at lw_m11 105 rfl
theorem q2633 : (Jvm.Cond.instanceMethod ({ cls := "MissCurvesModel", name := "readPart", desc := "(I)V" } : Jvm.MethodName)) ∈ lw_all := lw_g (lw_at lw_m11 106 rfl) rfl
theorem q2634 : (Jvm.Cond.code ({ cls := "MissCurvesModel", name := "readPart", desc := "(I)V" } : Jvm.MethodName) prog_32_method_49_code (3 : Nat) (Option.none : Option Jvm.ClassFile.FieldType)) ∈ lw_all := lw_g (lw_at lw_m11 107 rfl) rfl
theorem q2635 : (Jvm.Cond.methodLink "MissCurvesModel" (224 : Nat) ({ cls := "MissCurvesModel", name := "must", desc := "(I)V" } : Jvm.MethodName)) ∈ lw_all := lw_g (lw_at lw_m11 108 rfl) rfl
theorem q2636 : (Jvm.Cond.privateMethod ({ cls := "MissCurvesModel", name := "must", desc := "(I)V" } : Jvm.MethodName)) ∈ lw_tbl := lw_at lw_m11 109 rfl
theorem q2637 : (Jvm.Cond.instanceMethod ({ cls := "MissCurvesModel", name := "must", desc := "(I)V" } : Jvm.MethodName)) ∈ lw_all := lw_g (lw_at lw_m11 110 rfl) rfl
theorem q2638 : (Jvm.Cond.code ({ cls := "MissCurvesModel", name := "must", desc := "(I)V" } : Jvm.MethodName) prog_32_method_36_code (2 : Nat) (Option.none : Option Jvm.ClassFile.FieldType)) ∈ lw_all := lw_g (lw_at lw_m11 111 rfl) rfl
theorem q2639 : (Jvm.Cond.methodLink "MissCurvesModel" (269 : Nat) ({ cls := "MissCurvesModel", name := "leaf", desc := "()V" } : Jvm.MethodName)) ∈ lw_all := lw_g (lw_at lw_m11 112 rfl) rfl
theorem q2640 : (Jvm.Cond.privateMethod ({ cls := "MissCurvesModel", name := "leaf", desc := "()V" } : Jvm.MethodName)) ∈ lw_tbl := lw_at lw_m11 113 rfl
theorem q2641 : (Jvm.Cond.instanceMethod ({ cls := "MissCurvesModel", name := "leaf", desc := "()V" } : Jvm.MethodName)) ∈ lw_all := lw_g (lw_at lw_m11 114 rfl) rfl
theorem q2642 : (Jvm.Cond.code ({ cls := "MissCurvesModel", name := "leaf", desc := "()V" } : Jvm.MethodName) prog_32_method_37_code (1 : Nat) (Option.none : Option Jvm.ClassFile.FieldType)) ∈ lw_all := lw_g (lw_at lw_m11 115 rfl) rfl
theorem q2643 : (Jvm.Cond.methodLink "MissCurvesModel" (233 : Nat) ({ cls := "MissCurvesModel", name := "mustNumber", desc := "(II)V" } : Jvm.MethodName)) ∈ lw_all := lw_g (lw_at lw_m11 116 rfl) rfl
theorem q2644 : (Jvm.Cond.privateMethod ({ cls := "MissCurvesModel", name := "mustNumber", desc := "(II)V" } : Jvm.MethodName)) ∈ lw_tbl := lw_at lw_m11 117 rfl
theorem q2645 : (Jvm.Cond.instanceMethod ({ cls := "MissCurvesModel", name := "mustNumber", desc := "(II)V" } : Jvm.MethodName)) ∈ lw_all := lw_g (lw_at lw_m11 118 rfl) rfl
theorem q2646 : (Jvm.Cond.code ({ cls := "MissCurvesModel", name := "mustNumber", desc := "(II)V" } : Jvm.MethodName) prog_32_method_39_code (3 : Nat) (Option.none : Option Jvm.ClassFile.FieldType)) ∈ lw_all := lw_g (lw_at lw_m11 119 rfl) rfl
theorem q2647 : (Jvm.Cond.methodLink "MissCurvesModel" (230 : Nat) ({ cls := "MissCurvesModel", name := "readBehind", desc := "(I)V" } : Jvm.MethodName)) ∈ lw_all := lw_g (lw_at lw_m11 120 rfl) rfl
theorem q2648 : (Jvm.Cond.privateMethod ({ cls := "MissCurvesModel", name := "readBehind", desc := "(I)V" } : Jvm.MethodName)) ∈ lw_tbl := lw_at lw_m11 121 rfl
theorem q2649 : (Jvm.Cond.instanceMethod ({ cls := "MissCurvesModel", name := "readBehind", desc := "(I)V" } : Jvm.MethodName)) ∈ lw_all := lw_g (lw_at lw_m11 122 rfl) rfl
theorem q2650 : (Jvm.Cond.code ({ cls := "MissCurvesModel", name := "readBehind", desc := "(I)V" } : Jvm.MethodName) prog_32_method_41_code (2 : Nat) (Option.none : Option Jvm.ClassFile.FieldType)) ∈ lw_all := lw_g (lw_at lw_m11 123 rfl) rfl
theorem q2651 : (Jvm.Cond.methodLink "MissCurvesModel" (227 : Nat) ({ cls := "MissCurvesModel", name := "readTest", desc := "(I)V" } : Jvm.MethodName)) ∈ lw_all := lw_g (lw_at lw_m11 124 rfl) rfl
theorem q2652 : (Jvm.Cond.privateMethod ({ cls := "MissCurvesModel", name := "readTest", desc := "(I)V" } : Jvm.MethodName)) ∈ lw_tbl := lw_at lw_m11 125 rfl
theorem q2653 : (Jvm.Cond.instanceMethod ({ cls := "MissCurvesModel", name := "readTest", desc := "(I)V" } : Jvm.MethodName)) ∈ lw_all := lw_g (lw_at lw_m11 126 rfl) rfl
theorem q2654 : (Jvm.Cond.code ({ cls := "MissCurvesModel", name := "readTest", desc := "(I)V" } : Jvm.MethodName) prog_32_method_44_code (2 : Nat) (Option.none : Option Jvm.ClassFile.FieldType)) ∈ lw_all := lw_g (lw_at lw_m11 127 rfl) rfl
theorem q2655 : (Jvm.Cond.methodLink "MissCurvesModel" (247 : Nat) ({ cls := "MissCurvesModel", name := "readBoth", desc := "(I)V" } : Jvm.MethodName)) ∈ lw_all := lw_g (lw_at lw_m11 128 rfl) rfl
theorem q2656 : (Jvm.Cond.privateMethod ({ cls := "MissCurvesModel", name := "readBoth", desc := "(I)V" } : Jvm.MethodName)) ∈ lw_tbl := lw_at lw_m11 129 rfl
theorem q2657 : (Jvm.Cond.instanceMethod ({ cls := "MissCurvesModel", name := "readBoth", desc := "(I)V" } : Jvm.MethodName)) ∈ lw_all := lw_g (lw_at lw_m11 130 rfl) rfl
theorem q2658 : (Jvm.Cond.code ({ cls := "MissCurvesModel", name := "readBoth", desc := "(I)V" } : Jvm.MethodName) prog_32_method_45_code (2 : Nat) (Option.none : Option Jvm.ClassFile.FieldType)) ∈ lw_all := lw_g (lw_at lw_m11 131 rfl) rfl
theorem q2659 : (Jvm.Cond.methodLink "MissCurvesModel" (250 : Nat) ({ cls := "MissCurvesModel", name := "readPlain", desc := "(I)V" } : Jvm.MethodName)) ∈ lw_all := lw_g (lw_at lw_m11 132 rfl) rfl
theorem q2660 : (Jvm.Cond.privateMethod ({ cls := "MissCurvesModel", name := "readPlain", desc := "(I)V" } : Jvm.MethodName)) ∈ lw_tbl := lw_at lw_m11 133 rfl
theorem q2661 : (Jvm.Cond.instanceMethod ({ cls := "MissCurvesModel", name := "readPlain", desc := "(I)V" } : Jvm.MethodName)) ∈ lw_all := lw_g (lw_at lw_m11 134 rfl) rfl
theorem q2662 : (Jvm.Cond.code ({ cls := "MissCurvesModel", name := "readPlain", desc := "(I)V" } : Jvm.MethodName) prog_32_method_46_code (4 : Nat) (Option.none : Option Jvm.ClassFile.FieldType)) ∈ lw_all := lw_g (lw_at lw_m11 135 rfl) rfl
theorem q2663 : (Jvm.Cond.methodLink "MissCurvesModel" (244 : Nat) ({ cls := "MissCurvesModel", name := "readClause", desc := "()V" } : Jvm.MethodName)) ∈ lw_all := lw_g (lw_at lw_m11 136 rfl) rfl
theorem q2664 : (Jvm.Cond.privateMethod ({ cls := "MissCurvesModel", name := "readClause", desc := "()V" } : Jvm.MethodName)) ∈ lw_tbl := lw_at lw_m11 137 rfl
theorem q2665 : (Jvm.Cond.instanceMethod ({ cls := "MissCurvesModel", name := "readClause", desc := "()V" } : Jvm.MethodName)) ∈ lw_all := lw_g (lw_at lw_m11 138 rfl) rfl
theorem q2666 : (Jvm.Cond.code ({ cls := "MissCurvesModel", name := "readClause", desc := "()V" } : Jvm.MethodName) prog_32_method_40_code (1 : Nat) (Option.none : Option Jvm.ClassFile.FieldType)) ∈ lw_all := lw_g (lw_at lw_m11 139 rfl) rfl
theorem q2667 : (Jvm.Cond.methodLink "MissCurvesModel" (285 : Nat) ({ cls := "MissCurvesModel", name := "lays", desc := "(I)V" } : Jvm.MethodName)) ∈ lw_all := lw_g (lw_at lw_m11 140 rfl) rfl
theorem q2668 : (Jvm.Cond.privateMethod ({ cls := "MissCurvesModel", name := "lays", desc := "(I)V" } : Jvm.MethodName)) ∈ lw_tbl := lw_at lw_m11 141 rfl
theorem q2669 : (Jvm.Cond.instanceMethod ({ cls := "MissCurvesModel", name := "lays", desc := "(I)V" } : Jvm.MethodName)) ∈ lw_all := lw_g (lw_at lw_m11 142 rfl) rfl
theorem q2670 : (Jvm.Cond.code ({ cls := "MissCurvesModel", name := "lays", desc := "(I)V" } : Jvm.MethodName) prog_32_method_52_code (3 : Nat) (Option.none : Option Jvm.ClassFile.FieldType)) ∈ lw_all := lw_g (lw_at lw_m11 143 rfl) rfl
theorem q2672 : (Jvm.Cond.instanceMethod ({ cls := "MissCurvesModel", name := "fault", desc := "()I" } : Jvm.MethodName)) ∈ lw_all := lw_g (lw_at lw_m11 145 rfl) rfl
theorem q2673 : (Jvm.Cond.selects "MissCurvesModel" ({ cls := "MissCurvesModel", name := "fault", desc := "()I" } : Jvm.MethodName) ({ cls := "MissCurvesModel", name := "fault", desc := "()I" } : Jvm.MethodName)) ∈ lw_all := lw_g (lw_at lw_m11 146 rfl) rfl
theorem q2674 : (Jvm.Cond.code ({ cls := "MissCurvesModel", name := "fault", desc := "()I" } : Jvm.MethodName) prog_32_method_55_code (1 : Nat) (Option.some Jvm.ClassFile.FieldType.int)) ∈ lw_all := lw_g (lw_at lw_m11 147 rfl) rfl
theorem q2676 : (Jvm.Cond.instanceMethod ({ cls := "MissCurvesModel", name := "force", desc := "(I)I" } : Jvm.MethodName)) ∈ lw_all := lw_g (lw_at lw_m11 149 rfl) rfl
theorem q2677 : (Jvm.Cond.selects "MissCurvesModel" ({ cls := "MissCurvesModel", name := "force", desc := "(I)I" } : Jvm.MethodName) ({ cls := "MissCurvesModel", name := "force", desc := "(I)I" } : Jvm.MethodName)) ∈ lw_all := lw_g (lw_at lw_m11 150 rfl) rfl
theorem q2678 : (Jvm.Cond.code ({ cls := "MissCurvesModel", name := "force", desc := "(I)I" } : Jvm.MethodName) prog_32_method_57_code (3 : Nat) (Option.some Jvm.ClassFile.FieldType.int)) ∈ lw_all := lw_g (lw_at lw_m11 151 rfl) rfl
theorem q2679 : (Jvm.Cond.methodLink "MissCurvesModel" (288 : Nat) ({ cls := "MissCurvesModel", name := "isLaw", desc := "(I)Z" } : Jvm.MethodName)) ∈ lw_all := lw_g (lw_at lw_m11 152 rfl) rfl
theorem q2680 : (Jvm.Cond.privateMethod ({ cls := "MissCurvesModel", name := "isLaw", desc := "(I)Z" } : Jvm.MethodName)) ∈ lw_tbl := lw_at lw_m11 153 rfl
theorem q2681 : (Jvm.Cond.instanceMethod ({ cls := "MissCurvesModel", name := "isLaw", desc := "(I)Z" } : Jvm.MethodName)) ∈ lw_all := lw_g (lw_at lw_m11 154 rfl) rfl
theorem q2682 : (Jvm.Cond.code ({ cls := "MissCurvesModel", name := "isLaw", desc := "(I)Z" } : Jvm.MethodName) prog_32_method_56_code (2 : Nat) (Option.some Jvm.ClassFile.FieldType.boolean)) ∈ lw_all := lw_g (lw_at lw_m11 155 rfl) rfl
theorem q2684 : (Jvm.Cond.instanceMethod ({ cls := "MissCurvesModel", name := "undo", desc := "()I" } : Jvm.MethodName)) ∈ lw_all := lw_g (lw_at lw_m11 157 rfl) rfl
theorem q2685 : (Jvm.Cond.selects "MissCurvesModel" ({ cls := "MissCurvesModel", name := "undo", desc := "()I" } : Jvm.MethodName) ({ cls := "MissCurvesModel", name := "undo", desc := "()I" } : Jvm.MethodName)) ∈ lw_all := lw_g (lw_at lw_m11 158 rfl) rfl
theorem q2686 : (Jvm.Cond.code ({ cls := "MissCurvesModel", name := "undo", desc := "()I" } : Jvm.MethodName) prog_32_method_82_code (3 : Nat) (Option.some Jvm.ClassFile.FieldType.int)) ∈ lw_all := lw_g (lw_at lw_m11 159 rfl) rfl
theorem q2688 : (Jvm.Cond.instanceMethod ({ cls := "MissCurvesModel", name := "read", desc := "(II)I" } : Jvm.MethodName)) ∈ lw_all := lw_g (lw_at lw_m11 161 rfl) rfl
theorem q2689 : (Jvm.Cond.selects "MissCurvesModel" ({ cls := "MissCurvesModel", name := "read", desc := "(II)I" } : Jvm.MethodName) ({ cls := "MissCurvesModel", name := "read", desc := "(II)I" } : Jvm.MethodName)) ∈ lw_all := lw_g (lw_at lw_m11 162 rfl) rfl
theorem q2690 : (Jvm.Cond.code ({ cls := "MissCurvesModel", name := "read", desc := "(II)I" } : Jvm.MethodName) prog_32_method_88_code (3 : Nat) (Option.some Jvm.ClassFile.FieldType.int)) ∈ lw_all := lw_g (lw_at lw_m11 163 rfl) rfl
theorem q2691 : (Jvm.Cond.methodLink "MissCurvesModel" (389 : Nat) ({ cls := "MissCurvesModel", name := "readsKept", desc := "(II)I" } : Jvm.MethodName)) ∈ lw_all := lw_g (lw_at lw_m11 164 rfl) rfl
theorem q2692 : (Jvm.Cond.privateMethod ({ cls := "MissCurvesModel", name := "readsKept", desc := "(II)I" } : Jvm.MethodName)) ∈ lw_tbl := lw_at lw_m11 165 rfl
theorem q2693 : (Jvm.Cond.instanceMethod ({ cls := "MissCurvesModel", name := "readsKept", desc := "(II)I" } : Jvm.MethodName)) ∈ lw_all := lw_g (lw_at lw_m11 166 rfl) rfl
theorem q2694 : (Jvm.Cond.code ({ cls := "MissCurvesModel", name := "readsKept", desc := "(II)I" } : Jvm.MethodName) prog_32_method_84_code (3 : Nat) (Option.some Jvm.ClassFile.FieldType.int)) ∈ lw_all := lw_g (lw_at lw_m11 167 rfl) rfl
theorem q2695 : (Jvm.Cond.methodLink "MissCurvesModel" (379 : Nat) ({ cls := "MissCurvesModel", name := "keeps", desc := "(I)V" } : Jvm.MethodName)) ∈ lw_all := lw_g (lw_at lw_m11 168 rfl) rfl
theorem q2696 : (Jvm.Cond.privateMethod ({ cls := "MissCurvesModel", name := "keeps", desc := "(I)V" } : Jvm.MethodName)) ∈ lw_tbl := lw_at lw_m11 169 rfl
theorem q2697 : (Jvm.Cond.instanceMethod ({ cls := "MissCurvesModel", name := "keeps", desc := "(I)V" } : Jvm.MethodName)) ∈ lw_all := lw_g (lw_at lw_m11 170 rfl) rfl
theorem q2698 : (Jvm.Cond.code ({ cls := "MissCurvesModel", name := "keeps", desc := "(I)V" } : Jvm.MethodName) prog_32_method_81_code (4 : Nat) (Option.none : Option Jvm.ClassFile.FieldType)) ∈ lw_all := lw_g (lw_at lw_m11 171 rfl) rfl
theorem q2699 : (Jvm.Cond.methodLink "MissCurvesModel" (392 : Nat) ({ cls := "MissCurvesModel", name := "goodOr", desc := "(I)I" } : Jvm.MethodName)) ∈ lw_all := lw_g (lw_at lw_m11 172 rfl) rfl
theorem q2700 : (Jvm.Cond.privateMethod ({ cls := "MissCurvesModel", name := "goodOr", desc := "(I)I" } : Jvm.MethodName)) ∈ lw_tbl := lw_at lw_m11 173 rfl
theorem q2701 : (Jvm.Cond.instanceMethod ({ cls := "MissCurvesModel", name := "goodOr", desc := "(I)I" } : Jvm.MethodName)) ∈ lw_all := lw_g (lw_at lw_m11 174 rfl) rfl
theorem q2702 : (Jvm.Cond.code ({ cls := "MissCurvesModel", name := "goodOr", desc := "(I)I" } : Jvm.MethodName) prog_32_method_83_code (2 : Nat) (Option.some Jvm.ClassFile.FieldType.int)) ∈ lw_all := lw_g (lw_at lw_m11 175 rfl) rfl
theorem q2704 : (Jvm.Cond.instanceMethod ({ cls := "MissCurvesModel", name := "loop", desc := "(III)I" } : Jvm.MethodName)) ∈ lw_all := lw_g (lw_at lw_m11 177 rfl) rfl
theorem q2705 : (Jvm.Cond.selects "MissCurvesModel" ({ cls := "MissCurvesModel", name := "loop", desc := "(III)I" } : Jvm.MethodName) ({ cls := "MissCurvesModel", name := "loop", desc := "(III)I" } : Jvm.MethodName)) ∈ lw_all := lw_g (lw_at lw_m11 178 rfl) rfl
theorem q2706 : (Jvm.Cond.code ({ cls := "MissCurvesModel", name := "loop", desc := "(III)I" } : Jvm.MethodName) prog_32_method_89_code (4 : Nat) (Option.some Jvm.ClassFile.FieldType.int)) ∈ lw_all := lw_g (lw_at lw_m11 179 rfl) rfl
theorem q2707 : (Jvm.Cond.methodLink "MissCurvesModel" (395 : Nat) ({ cls := "MissCurvesModel", name := "loopsKept", desc := "(III)I" } : Jvm.MethodName)) ∈ lw_all := lw_g (lw_at lw_m11 180 rfl) rfl
theorem q2708 : (Jvm.Cond.privateMethod ({ cls := "MissCurvesModel", name := "loopsKept", desc := "(III)I" } : Jvm.MethodName)) ∈ lw_tbl := lw_at lw_m11 181 rfl
theorem q2709 : (Jvm.Cond.instanceMethod ({ cls := "MissCurvesModel", name := "loopsKept", desc := "(III)I" } : Jvm.MethodName)) ∈ lw_all := lw_g (lw_at lw_m11 182 rfl) rfl
theorem q2710 : (Jvm.Cond.code ({ cls := "MissCurvesModel", name := "loopsKept", desc := "(III)I" } : Jvm.MethodName) prog_32_method_85_code (6 : Nat) (Option.some Jvm.ClassFile.FieldType.int)) ∈ lw_all := lw_g (lw_at lw_m11 183 rfl) rfl
theorem q2712 : (Jvm.Cond.instanceMethod ({ cls := "MissCurvesModel", name := "drop", desc := "(II)I" } : Jvm.MethodName)) ∈ lw_all := lw_g (lw_at lw_m11 185 rfl) rfl
theorem q2713 : (Jvm.Cond.selects "MissCurvesModel" ({ cls := "MissCurvesModel", name := "drop", desc := "(II)I" } : Jvm.MethodName) ({ cls := "MissCurvesModel", name := "drop", desc := "(II)I" } : Jvm.MethodName)) ∈ lw_all := lw_g (lw_at lw_m11 186 rfl) rfl
theorem q2714 : (Jvm.Cond.code ({ cls := "MissCurvesModel", name := "drop", desc := "(II)I" } : Jvm.MethodName) prog_32_method_90_code (3 : Nat) (Option.some Jvm.ClassFile.FieldType.int)) ∈ lw_all := lw_g (lw_at lw_m11 187 rfl) rfl
theorem q2715 : (Jvm.Cond.methodLink "MissCurvesModel" (398 : Nat) ({ cls := "MissCurvesModel", name := "dropsKept", desc := "(II)I" } : Jvm.MethodName)) ∈ lw_all := lw_g (lw_at lw_m11 188 rfl) rfl
theorem q2716 : (Jvm.Cond.privateMethod ({ cls := "MissCurvesModel", name := "dropsKept", desc := "(II)I" } : Jvm.MethodName)) ∈ lw_tbl := lw_at lw_m11 189 rfl
theorem q2717 : (Jvm.Cond.instanceMethod ({ cls := "MissCurvesModel", name := "dropsKept", desc := "(II)I" } : Jvm.MethodName)) ∈ lw_all := lw_g (lw_at lw_m11 190 rfl) rfl
theorem q2718 : (Jvm.Cond.code ({ cls := "MissCurvesModel", name := "dropsKept", desc := "(II)I" } : Jvm.MethodName) prog_32_method_86_code (4 : Nat) (Option.some Jvm.ClassFile.FieldType.int)) ∈ lw_all := lw_g (lw_at lw_m11 191 rfl) rfl
theorem q2719 : (Jvm.Cond.methodLink "MissCurvesModel" (382 : Nat) ({ cls := "MissCurvesModel", name := "drops", desc := "(II)V" } : Jvm.MethodName)) ∈ lw_all := lw_g (lw_at lw_m11 192 rfl) rfl
theorem q2720 : (Jvm.Cond.privateMethod ({ cls := "MissCurvesModel", name := "drops", desc := "(II)V" } : Jvm.MethodName)) ∈ lw_tbl := lw_at lw_m11 193 rfl
theorem q2721 : (Jvm.Cond.instanceMethod ({ cls := "MissCurvesModel", name := "drops", desc := "(II)V" } : Jvm.MethodName)) ∈ lw_all := lw_g (lw_at lw_m11 194 rfl) rfl
theorem q2722 : (Jvm.Cond.code ({ cls := "MissCurvesModel", name := "drops", desc := "(II)V" } : Jvm.MethodName) prog_32_method_79_code (4 : Nat) (Option.none : Option Jvm.ClassFile.FieldType)) ∈ lw_all := lw_g (lw_at lw_m11 195 rfl) rfl
theorem q2724 : (Jvm.Cond.instanceMethod ({ cls := "MissCurvesModel", name := "pass", desc := "()I" } : Jvm.MethodName)) ∈ lw_all := lw_g (lw_at lw_m11 197 rfl) rfl
theorem q2725 : (Jvm.Cond.selects "MissCurvesModel" ({ cls := "MissCurvesModel", name := "pass", desc := "()I" } : Jvm.MethodName) ({ cls := "MissCurvesModel", name := "pass", desc := "()I" } : Jvm.MethodName)) ∈ lw_all := lw_g (lw_at lw_m11 198 rfl) rfl
theorem q2726 : (Jvm.Cond.code ({ cls := "MissCurvesModel", name := "pass", desc := "()I" } : Jvm.MethodName) prog_32_method_91_code (1 : Nat) (Option.some Jvm.ClassFile.FieldType.int)) ∈ lw_all := lw_g (lw_at lw_m11 199 rfl) rfl
theorem q2727 : (Jvm.Cond.methodLink "MissCurvesModel" (401 : Nat) ({ cls := "MissCurvesModel", name := "passesKept", desc := "()I" } : Jvm.MethodName)) ∈ lw_all := lw_g (lw_at lw_m11 200 rfl) rfl
theorem q2728 : (Jvm.Cond.privateMethod ({ cls := "MissCurvesModel", name := "passesKept", desc := "()I" } : Jvm.MethodName)) ∈ lw_tbl := lw_at lw_m11 201 rfl
theorem q2729 : (Jvm.Cond.instanceMethod ({ cls := "MissCurvesModel", name := "passesKept", desc := "()I" } : Jvm.MethodName)) ∈ lw_all := lw_g (lw_at lw_m11 202 rfl) rfl
theorem q2730 : (Jvm.Cond.code ({ cls := "MissCurvesModel", name := "passesKept", desc := "()I" } : Jvm.MethodName) prog_32_method_87_code (1 : Nat) (Option.some Jvm.ClassFile.FieldType.int)) ∈ lw_all := lw_g (lw_at lw_m11 203 rfl) rfl
theorem q2731 : (Jvm.Cond.methodLink "MissCurvesModel" (385 : Nat) ({ cls := "MissCurvesModel", name := "timePasses", desc := "()I" } : Jvm.MethodName)) ∈ lw_all := lw_g (lw_at lw_m11 204 rfl) rfl
theorem q2732 : (Jvm.Cond.privateMethod ({ cls := "MissCurvesModel", name := "timePasses", desc := "()I" } : Jvm.MethodName)) ∈ lw_tbl := lw_at lw_m11 205 rfl
theorem q2733 : (Jvm.Cond.instanceMethod ({ cls := "MissCurvesModel", name := "timePasses", desc := "()I" } : Jvm.MethodName)) ∈ lw_all := lw_g (lw_at lw_m11 206 rfl) rfl
theorem q2734 : (Jvm.Cond.code ({ cls := "MissCurvesModel", name := "timePasses", desc := "()I" } : Jvm.MethodName) prog_32_method_80_code (4 : Nat) (Option.some Jvm.ClassFile.FieldType.int)) ∈ lw_all := lw_g (lw_at lw_m11 207 rfl) rfl
theorem q2735 : (Jvm.Cond.constantLong "MissCurvesModel" (377 : Nat) (2 : Int64)) ∈ lw_all := lw_g (lw_at lw_m11 208 rfl) rfl
theorem q2737 : (Jvm.Cond.instanceMethod ({ cls := "MissCurvesModel", name := "misses", desc := "(II)I" } : Jvm.MethodName)) ∈ lw_all := lw_g (lw_at lw_m11 210 rfl) rfl
theorem q2738 : (Jvm.Cond.selects "MissCurvesModel" ({ cls := "MissCurvesModel", name := "misses", desc := "(II)I" } : Jvm.MethodName) ({ cls := "MissCurvesModel", name := "misses", desc := "(II)I" } : Jvm.MethodName)) ∈ lw_all := lw_g (lw_at lw_m11 211 rfl) rfl
theorem q2739 : (Jvm.Cond.code ({ cls := "MissCurvesModel", name := "misses", desc := "(II)I" } : Jvm.MethodName) prog_32_method_94_code (3 : Nat) (Option.some Jvm.ClassFile.FieldType.int)) ∈ lw_all := lw_g (lw_at lw_m11 212 rfl) rfl
theorem q2740 : (Jvm.Cond.methodLink "MissCurvesModel" (404 : Nat) ({ cls := "MissCurvesModel", name := "isSize", desc := "(I)Z" } : Jvm.MethodName)) ∈ lw_all := lw_g (lw_at lw_m11 213 rfl) rfl
theorem q2741 : (Jvm.Cond.static ({ cls := "MissCurvesModel", name := "isSize", desc := "(I)Z" } : Jvm.MethodName)) ∈ lw_all := lw_g (lw_at lw_m11 214 rfl) rfl
theorem q2742 : (Jvm.Cond.code ({ cls := "MissCurvesModel", name := "isSize", desc := "(I)Z" } : Jvm.MethodName) prog_32_method_9_code (1 : Nat) (Option.some Jvm.ClassFile.FieldType.boolean)) ∈ lw_all := lw_g (lw_at lw_m11 215 rfl) rfl
theorem q2743 : (Jvm.Cond.methodLink "MissCurvesModel" (407 : Nat) ({ cls := "MissCurvesModel", name := "laysMisses", desc := "(I)V" } : Jvm.MethodName)) ∈ lw_all := lw_g (lw_at lw_m11 216 rfl) rfl
theorem q2744 : (Jvm.Cond.privateMethod ({ cls := "MissCurvesModel", name := "laysMisses", desc := "(I)V" } : Jvm.MethodName)) ∈ lw_tbl := lw_at lw_m11 217 rfl
theorem q2745 : (Jvm.Cond.instanceMethod ({ cls := "MissCurvesModel", name := "laysMisses", desc := "(I)V" } : Jvm.MethodName)) ∈ lw_all := lw_g (lw_at lw_m11 218 rfl) rfl
theorem q2746 : (Jvm.Cond.code ({ cls := "MissCurvesModel", name := "laysMisses", desc := "(I)V" } : Jvm.MethodName) prog_32_method_93_code (4 : Nat) (Option.none : Option Jvm.ClassFile.FieldType)) ∈ lw_all := lw_g (lw_at lw_m11 219 rfl) rfl
theorem q2747 : (Jvm.Cond.methodLink "MissCurvesModel" (410 : Nat) ({ cls := "MissCurvesModel", name := "missAt", desc := "(II)I" } : Jvm.MethodName)) ∈ lw_all := lw_g (lw_at lw_m11 220 rfl) rfl
theorem q2748 : (Jvm.Cond.privateMethod ({ cls := "MissCurvesModel", name := "missAt", desc := "(II)I" } : Jvm.MethodName)) ∈ lw_tbl := lw_at lw_m11 221 rfl
theorem q2749 : (Jvm.Cond.instanceMethod ({ cls := "MissCurvesModel", name := "missAt", desc := "(II)I" } : Jvm.MethodName)) ∈ lw_all := lw_g (lw_at lw_m11 222 rfl) rfl
theorem q2750 : (Jvm.Cond.code ({ cls := "MissCurvesModel", name := "missAt", desc := "(II)I" } : Jvm.MethodName) prog_32_method_92_code (3 : Nat) (Option.some Jvm.ClassFile.FieldType.int)) ∈ lw_all := lw_g (lw_at lw_m11 223 rfl) rfl
theorem q2752 : (Jvm.Cond.instanceMethod ({ cls := "MissCurvesModel", name := "hull", desc := "(II)J" } : Jvm.MethodName)) ∈ lw_all := lw_g (lw_at lw_m11 225 rfl) rfl
theorem q2753 : (Jvm.Cond.selects "MissCurvesModel" ({ cls := "MissCurvesModel", name := "hull", desc := "(II)J" } : Jvm.MethodName) ({ cls := "MissCurvesModel", name := "hull", desc := "(II)J" } : Jvm.MethodName)) ∈ lw_all := lw_g (lw_at lw_m11 226 rfl) rfl
theorem q2754 : (Jvm.Cond.code ({ cls := "MissCurvesModel", name := "hull", desc := "(II)J" } : Jvm.MethodName) prog_32_method_96_code (9 : Nat) (Option.some Jvm.ClassFile.FieldType.long)) ∈ lw_all := lw_g (lw_at lw_m11 227 rfl) rfl
theorem q2755 : (Jvm.Cond.constantLong "MissCurvesModel" (413 : Nat) (-1 : Int64)) ∈ lw_all := lw_g (lw_at lw_m11 228 rfl) rfl
theorem q2756 : (Jvm.Cond.constantLong "MissCurvesModel" (415 : Nat) (1000 : Int64)) ∈ lw_all := lw_g (lw_at lw_m11 229 rfl) rfl
theorem q2757 : (Jvm.Cond.methodLink "MissCurvesModel" (417 : Nat) ({ cls := "MissCurvesModel", name := "lineAt", desc := "(IIII)J" } : Jvm.MethodName)) ∈ lw_all := lw_g (lw_at lw_m11 230 rfl) rfl
theorem q2758 : (Jvm.Cond.privateMethod ({ cls := "MissCurvesModel", name := "lineAt", desc := "(IIII)J" } : Jvm.MethodName)) ∈ lw_tbl := lw_at lw_m11 231 rfl
theorem q2759 : (Jvm.Cond.instanceMethod ({ cls := "MissCurvesModel", name := "lineAt", desc := "(IIII)J" } : Jvm.MethodName)) ∈ lw_all := lw_g (lw_at lw_m11 232 rfl) rfl
theorem q2760 : (Jvm.Cond.code ({ cls := "MissCurvesModel", name := "lineAt", desc := "(IIII)J" } : Jvm.MethodName) prog_32_method_95_code (5 : Nat) (Option.some Jvm.ClassFile.FieldType.long)) ∈ lw_all := lw_g (lw_at lw_m11 233 rfl) rfl
theorem q2762 : (Jvm.Cond.instanceMethod ({ cls := "MissCurvesModel", name := "bend", desc := "(II)I" } : Jvm.MethodName)) ∈ lw_all := lw_g (lw_at lw_m11 235 rfl) rfl
theorem q2763 : (Jvm.Cond.selects "MissCurvesModel" ({ cls := "MissCurvesModel", name := "bend", desc := "(II)I" } : Jvm.MethodName) ({ cls := "MissCurvesModel", name := "bend", desc := "(II)I" } : Jvm.MethodName)) ∈ lw_all := lw_g (lw_at lw_m11 236 rfl) rfl
theorem q2764 : (Jvm.Cond.code ({ cls := "MissCurvesModel", name := "bend", desc := "(II)I" } : Jvm.MethodName) prog_32_method_99_code (3 : Nat) (Option.some Jvm.ClassFile.FieldType.int)) ∈ lw_all := lw_g (lw_at lw_m11 237 rfl) rfl
theorem q2765 : (Jvm.Cond.methodLink "MissCurvesModel" (424 : Nat) ({ cls := "MissCurvesModel", name := "laysBends", desc := "(I)V" } : Jvm.MethodName)) ∈ lw_all := lw_g (lw_at lw_m11 238 rfl) rfl
theorem q2766 : (Jvm.Cond.privateMethod ({ cls := "MissCurvesModel", name := "laysBends", desc := "(I)V" } : Jvm.MethodName)) ∈ lw_tbl := lw_at lw_m11 239 rfl
theorem q2767 : (Jvm.Cond.instanceMethod ({ cls := "MissCurvesModel", name := "laysBends", desc := "(I)V" } : Jvm.MethodName)) ∈ lw_all := lw_g (lw_at lw_m12 0 rfl) rfl
theorem q2768 : (Jvm.Cond.code ({ cls := "MissCurvesModel", name := "laysBends", desc := "(I)V" } : Jvm.MethodName) prog_32_method_98_code (3 : Nat) (Option.none : Option Jvm.ClassFile.FieldType)) ∈ lw_all := lw_g (lw_at lw_m12 1 rfl) rfl
theorem q2769 : (Jvm.Cond.methodLink "MissCurvesModel" (421 : Nat) ({ cls := "MissCurvesModel", name := "isBend", desc := "(II)Z" } : Jvm.MethodName)) ∈ lw_all := lw_g (lw_at lw_m12 2 rfl) rfl
theorem q2770 : (Jvm.Cond.privateMethod ({ cls := "MissCurvesModel", name := "isBend", desc := "(II)Z" } : Jvm.MethodName)) ∈ lw_tbl := lw_at lw_m12 3 rfl
theorem q2771 : (Jvm.Cond.instanceMethod ({ cls := "MissCurvesModel", name := "isBend", desc := "(II)Z" } : Jvm.MethodName)) ∈ lw_all := lw_g (lw_at lw_m12 4 rfl) rfl
theorem q2772 : (Jvm.Cond.code ({ cls := "MissCurvesModel", name := "isBend", desc := "(II)Z" } : Jvm.MethodName) prog_32_method_97_code (6 : Nat) (Option.some Jvm.ClassFile.FieldType.boolean)) ∈ lw_all := lw_g (lw_at lw_m12 5 rfl) rfl
theorem q2774 : (Jvm.Cond.instanceMethod ({ cls := "MissCurvesModel", name := "report", desc := "(I)I" } : Jvm.MethodName)) ∈ lw_all := lw_g (lw_at lw_m12 7 rfl) rfl
theorem q2775 : (Jvm.Cond.selects "MissCurvesModel" ({ cls := "MissCurvesModel", name := "report", desc := "(I)I" } : Jvm.MethodName) ({ cls := "MissCurvesModel", name := "report", desc := "(I)I" } : Jvm.MethodName)) ∈ lw_all := lw_g (lw_at lw_m12 8 rfl) rfl
theorem q2776 : (Jvm.Cond.code ({ cls := "MissCurvesModel", name := "report", desc := "(I)I" } : Jvm.MethodName) prog_32_method_102_code (4 : Nat) (Option.some Jvm.ClassFile.FieldType.int)) ∈ lw_all := lw_g (lw_at lw_m12 9 rfl) rfl
theorem q2777 : (Jvm.Cond.methodLink "MissCurvesModel" (430 : Nat) ({ cls := "MissCurvesModel", name := "writes", desc := "(I)V" } : Jvm.MethodName)) ∈ lw_all := lw_g (lw_at lw_m12 10 rfl) rfl
theorem q2778 : (Jvm.Cond.privateMethod ({ cls := "MissCurvesModel", name := "writes", desc := "(I)V" } : Jvm.MethodName)) ∈ lw_tbl := lw_at lw_m12 11 rfl
theorem q2779 : (Jvm.Cond.instanceMethod ({ cls := "MissCurvesModel", name := "writes", desc := "(I)V" } : Jvm.MethodName)) ∈ lw_all := lw_g (lw_at lw_m12 12 rfl) rfl
theorem q2780 : (Jvm.Cond.code ({ cls := "MissCurvesModel", name := "writes", desc := "(I)V" } : Jvm.MethodName) prog_32_method_100_code (2 : Nat) (Option.none : Option Jvm.ClassFile.FieldType)) ∈ lw_all := lw_g (lw_at lw_m12 13 rfl) rfl
theorem q2781 : (Jvm.Cond.methodLink "MissCurvesModel" (433 : Nat) ({ cls := "MissCurvesModel", name := "writesNumber", desc := "(I)V" } : Jvm.MethodName)) ∈ lw_all := lw_g (lw_at lw_m12 14 rfl) rfl
theorem q2782 : (Jvm.Cond.privateMethod ({ cls := "MissCurvesModel", name := "writesNumber", desc := "(I)V" } : Jvm.MethodName)) ∈ lw_tbl := lw_at lw_m12 15 rfl
theorem q2783 : (Jvm.Cond.instanceMethod ({ cls := "MissCurvesModel", name := "writesNumber", desc := "(I)V" } : Jvm.MethodName)) ∈ lw_all := lw_g (lw_at lw_m12 16 rfl) rfl
theorem q2784 : (Jvm.Cond.code ({ cls := "MissCurvesModel", name := "writesNumber", desc := "(I)V" } : Jvm.MethodName) prog_32_method_101_code (5 : Nat) (Option.none : Option Jvm.ClassFile.FieldType)) ∈ lw_all := lw_g (lw_at lw_m12 17 rfl) rfl
theorem q2786 : (Jvm.Cond.instanceMethod ({ cls := "MissCurvesModel", name := "sign", desc := "(I)I" } : Jvm.MethodName)) ∈ lw_all := lw_g (lw_at lw_m12 19 rfl) rfl
theorem q2787 : (Jvm.Cond.selects "MissCurvesModel" ({ cls := "MissCurvesModel", name := "sign", desc := "(I)I" } : Jvm.MethodName) ({ cls := "MissCurvesModel", name := "sign", desc := "(I)I" } : Jvm.MethodName)) ∈ lw_all := lw_g (lw_at lw_m12 20 rfl) rfl
theorem q2788 : (Jvm.Cond.code ({ cls := "MissCurvesModel", name := "sign", desc := "(I)I" } : Jvm.MethodName) prog_32_method_103_code (2 : Nat) (Option.some Jvm.ClassFile.FieldType.int)) ∈ lw_all := lw_g (lw_at lw_m12 21 rfl) rfl
theorem q2790 : (Jvm.Cond.instanceMethod ({ cls := "MissCurvesModel", name := "guess", desc := "(II)I" } : Jvm.MethodName)) ∈ lw_all := lw_g (lw_at lw_m12 23 rfl) rfl
theorem q2791 : (Jvm.Cond.selects "MissCurvesModel" ({ cls := "MissCurvesModel", name := "guess", desc := "(II)I" } : Jvm.MethodName) ({ cls := "MissCurvesModel", name := "guess", desc := "(II)I" } : Jvm.MethodName)) ∈ lw_all := lw_g (lw_at lw_m12 24 rfl) rfl
theorem q2792 : (Jvm.Cond.code ({ cls := "MissCurvesModel", name := "guess", desc := "(II)I" } : Jvm.MethodName) prog_32_method_104_code (7 : Nat) (Option.some Jvm.ClassFile.FieldType.int)) ∈ lw_all := lw_g (lw_at lw_m12 25 rfl) rfl
theorem q2793 : (Jvm.Cond.constantLong "MissCurvesModel" (436 : Nat) (2000000000 : Int64)) ∈ lw_all := lw_g (lw_at lw_m12 26 rfl) rfl
theorem q2794 : (Jvm.Cond.constant "MissCurvesModel" (438 : Nat) (2000000000 : Int32)) ∈ lw_all := lw_g (lw_at lw_m12 27 rfl) rfl
theorem q2796 : (Jvm.Cond.instanceMethod ({ cls := "MissCurvesModel", name := "salted", desc := "(II)I" } : Jvm.MethodName)) ∈ lw_all := lw_g (lw_at lw_m12 29 rfl) rfl
theorem q2797 : (Jvm.Cond.selects "MissCurvesModel" ({ cls := "MissCurvesModel", name := "salted", desc := "(II)I" } : Jvm.MethodName) ({ cls := "MissCurvesModel", name := "salted", desc := "(II)I" } : Jvm.MethodName)) ∈ lw_all := lw_g (lw_at lw_m12 30 rfl) rfl
theorem q2798 : (Jvm.Cond.code ({ cls := "MissCurvesModel", name := "salted", desc := "(II)I" } : Jvm.MethodName) prog_32_method_105_code (7 : Nat) (Option.some Jvm.ClassFile.FieldType.int)) ∈ lw_all := lw_g (lw_at lw_m12 31 rfl) rfl
theorem q2800 : (Jvm.Cond.instanceMethod ({ cls := "MissCurvesModel", name := "share", desc := "(II)I" } : Jvm.MethodName)) ∈ lw_all := lw_g (lw_at lw_m12 33 rfl) rfl
theorem q2801 : (Jvm.Cond.selects "MissCurvesModel" ({ cls := "MissCurvesModel", name := "share", desc := "(II)I" } : Jvm.MethodName) ({ cls := "MissCurvesModel", name := "share", desc := "(II)I" } : Jvm.MethodName)) ∈ lw_all := lw_g (lw_at lw_m12 34 rfl) rfl
theorem q2802 : (Jvm.Cond.code ({ cls := "MissCurvesModel", name := "share", desc := "(II)I" } : Jvm.MethodName) prog_32_method_107_code (4 : Nat) (Option.some Jvm.ClassFile.FieldType.int)) ∈ lw_all := lw_g (lw_at lw_m12 35 rfl) rfl
theorem q2803 : (Jvm.Cond.methodLink "MissCurvesModel" (446 : Nat) ({ cls := "MissCurvesModel", name := "whoGets", desc := "()I" } : Jvm.MethodName)) ∈ lw_all := lw_g (lw_at lw_m12 36 rfl) rfl
theorem q2804 : (Jvm.Cond.privateMethod ({ cls := "MissCurvesModel", name := "whoGets", desc := "()I" } : Jvm.MethodName)) ∈ lw_tbl := lw_at lw_m12 37 rfl
theorem q2805 : (Jvm.Cond.instanceMethod ({ cls := "MissCurvesModel", name := "whoGets", desc := "()I" } : Jvm.MethodName)) ∈ lw_all := lw_g (lw_at lw_m12 38 rfl) rfl
theorem q2806 : (Jvm.Cond.code ({ cls := "MissCurvesModel", name := "whoGets", desc := "()I" } : Jvm.MethodName) prog_32_method_108_code (6 : Nat) (Option.some Jvm.ClassFile.FieldType.int)) ∈ lw_all := lw_g (lw_at lw_m12 39 rfl) rfl
theorem q2807 : (Jvm.Cond.methodLink "MissCurvesModel" (449 : Nat) ({ cls := "MissCurvesModel", name := "laysFall", desc := "(II)V" } : Jvm.MethodName)) ∈ lw_all := lw_g (lw_at lw_m12 40 rfl) rfl
theorem q2808 : (Jvm.Cond.privateMethod ({ cls := "MissCurvesModel", name := "laysFall", desc := "(II)V" } : Jvm.MethodName)) ∈ lw_tbl := lw_at lw_m12 41 rfl
theorem q2809 : (Jvm.Cond.instanceMethod ({ cls := "MissCurvesModel", name := "laysFall", desc := "(II)V" } : Jvm.MethodName)) ∈ lw_all := lw_g (lw_at lw_m12 42 rfl) rfl
theorem q2810 : (Jvm.Cond.code ({ cls := "MissCurvesModel", name := "laysFall", desc := "(II)V" } : Jvm.MethodName) prog_32_method_106_code (6 : Nat) (Option.none : Option Jvm.ClassFile.FieldType)) ∈ lw_all := lw_g (lw_at lw_m12 43 rfl) rfl
theorem q2812 : (Jvm.Cond.instanceMethod ({ cls := "MissCurvesModel", name := "best", desc := "(II)I" } : Jvm.MethodName)) ∈ lw_all := lw_g (lw_at lw_m12 45 rfl) rfl
theorem q2813 : (Jvm.Cond.selects "MissCurvesModel" ({ cls := "MissCurvesModel", name := "best", desc := "(II)I" } : Jvm.MethodName) ({ cls := "MissCurvesModel", name := "best", desc := "(II)I" } : Jvm.MethodName)) ∈ lw_all := lw_g (lw_at lw_m12 46 rfl) rfl
theorem q2814 : (Jvm.Cond.code ({ cls := "MissCurvesModel", name := "best", desc := "(II)I" } : Jvm.MethodName) prog_32_method_112_code (6 : Nat) (Option.some Jvm.ClassFile.FieldType.int)) ∈ lw_all := lw_g (lw_at lw_m12 47 rfl) rfl
theorem q2815 : (Jvm.Cond.methodLink "MissCurvesModel" (459 : Nat) ({ cls := "MissCurvesModel", name := "laysFewest", desc := "(I)V" } : Jvm.MethodName)) ∈ lw_all := lw_g (lw_at lw_m12 48 rfl) rfl
theorem q2816 : (Jvm.Cond.privateMethod ({ cls := "MissCurvesModel", name := "laysFewest", desc := "(I)V" } : Jvm.MethodName)) ∈ lw_tbl := lw_at lw_m12 49 rfl
theorem q2817 : (Jvm.Cond.instanceMethod ({ cls := "MissCurvesModel", name := "laysFewest", desc := "(I)V" } : Jvm.MethodName)) ∈ lw_all := lw_g (lw_at lw_m12 50 rfl) rfl
theorem q2818 : (Jvm.Cond.code ({ cls := "MissCurvesModel", name := "laysFewest", desc := "(I)V" } : Jvm.MethodName) prog_32_method_111_code (6 : Nat) (Option.none : Option Jvm.ClassFile.FieldType)) ∈ lw_all := lw_g (lw_at lw_m12 51 rfl) rfl
theorem q2819 : (Jvm.Cond.constant "MissCurvesModel" (455 : Nat) (1000000000 : Int32)) ∈ lw_all := lw_g (lw_at lw_m12 52 rfl) rfl
theorem q2820 : (Jvm.Cond.methodLink "MissCurvesModel" (456 : Nat) ({ cls := "MissCurvesModel", name := "missesBy", desc := "(III)I" } : Jvm.MethodName)) ∈ lw_all := lw_g (lw_at lw_m12 53 rfl) rfl
theorem q2821 : (Jvm.Cond.privateMethod ({ cls := "MissCurvesModel", name := "missesBy", desc := "(III)I" } : Jvm.MethodName)) ∈ lw_tbl := lw_at lw_m12 54 rfl
theorem q2822 : (Jvm.Cond.instanceMethod ({ cls := "MissCurvesModel", name := "missesBy", desc := "(III)I" } : Jvm.MethodName)) ∈ lw_all := lw_g (lw_at lw_m12 55 rfl) rfl
theorem q2823 : (Jvm.Cond.code ({ cls := "MissCurvesModel", name := "missesBy", desc := "(III)I" } : Jvm.MethodName) prog_32_method_110_code (4 : Nat) (Option.some Jvm.ClassFile.FieldType.int)) ∈ lw_all := lw_g (lw_at lw_m12 56 rfl) rfl
theorem q2824 : (Jvm.Cond.methodLink "MissCurvesModel" (452 : Nat) ({ cls := "MissCurvesModel", name := "fewestAt", desc := "(II)I" } : Jvm.MethodName)) ∈ lw_all := lw_g (lw_at lw_m12 57 rfl) rfl
theorem q2825 : (Jvm.Cond.privateMethod ({ cls := "MissCurvesModel", name := "fewestAt", desc := "(II)I" } : Jvm.MethodName)) ∈ lw_tbl := lw_at lw_m12 58 rfl
theorem q2826 : (Jvm.Cond.instanceMethod ({ cls := "MissCurvesModel", name := "fewestAt", desc := "(II)I" } : Jvm.MethodName)) ∈ lw_all := lw_g (lw_at lw_m12 59 rfl) rfl
theorem q2827 : (Jvm.Cond.code ({ cls := "MissCurvesModel", name := "fewestAt", desc := "(II)I" } : Jvm.MethodName) prog_32_method_109_code (3 : Nat) (Option.some Jvm.ClassFile.FieldType.int)) ∈ lw_all := lw_g (lw_at lw_m12 60 rfl) rfl
theorem q2829 : (Jvm.Cond.instanceMethod ({ cls := "MissCurvesModel", name := "replay", desc := "(II)I" } : Jvm.MethodName)) ∈ lw_all := lw_g (lw_at lw_m12 62 rfl) rfl
theorem q2830 : (Jvm.Cond.selects "MissCurvesModel" ({ cls := "MissCurvesModel", name := "replay", desc := "(II)I" } : Jvm.MethodName) ({ cls := "MissCurvesModel", name := "replay", desc := "(II)I" } : Jvm.MethodName)) ∈ lw_all := lw_g (lw_at lw_m12 63 rfl) rfl
theorem q2831 : (Jvm.Cond.code ({ cls := "MissCurvesModel", name := "replay", desc := "(II)I" } : Jvm.MethodName) prog_32_method_122_code (3 : Nat) (Option.some Jvm.ClassFile.FieldType.int)) ∈ lw_all := lw_g (lw_at lw_m12 64 rfl) rfl
theorem q2832 : (Jvm.Cond.methodLink "MissCurvesModel" (491 : Nat) ({ cls := "MissCurvesModel", name := "readsAllAgain", desc := "(I)V" } : Jvm.MethodName)) ∈ lw_all := lw_g (lw_at lw_m12 65 rfl) rfl
theorem q2833 : (Jvm.Cond.privateMethod ({ cls := "MissCurvesModel", name := "readsAllAgain", desc := "(I)V" } : Jvm.MethodName)) ∈ lw_tbl := lw_at lw_m12 66 rfl
theorem q2834 : (Jvm.Cond.instanceMethod ({ cls := "MissCurvesModel", name := "readsAllAgain", desc := "(I)V" } : Jvm.MethodName)) ∈ lw_all := lw_g (lw_at lw_m12 67 rfl) rfl
theorem q2835 : (Jvm.Cond.code ({ cls := "MissCurvesModel", name := "readsAllAgain", desc := "(I)V" } : Jvm.MethodName) prog_32_method_121_code (4 : Nat) (Option.none : Option Jvm.ClassFile.FieldType)) ∈ lw_all := lw_g (lw_at lw_m12 68 rfl) rfl
theorem q2836 : (Jvm.Cond.methodLink "MissCurvesModel" (482 : Nat) ({ cls := "MissCurvesModel", name := "beginsAgain", desc := "(I)V" } : Jvm.MethodName)) ∈ lw_all := lw_g (lw_at lw_m12 69 rfl) rfl
theorem q2837 : (Jvm.Cond.privateMethod ({ cls := "MissCurvesModel", name := "beginsAgain", desc := "(I)V" } : Jvm.MethodName)) ∈ lw_tbl := lw_at lw_m12 70 rfl
theorem q2838 : (Jvm.Cond.instanceMethod ({ cls := "MissCurvesModel", name := "beginsAgain", desc := "(I)V" } : Jvm.MethodName)) ∈ lw_all := lw_g (lw_at lw_m12 71 rfl) rfl
theorem q2839 : (Jvm.Cond.code ({ cls := "MissCurvesModel", name := "beginsAgain", desc := "(I)V" } : Jvm.MethodName) prog_32_method_114_code (3 : Nat) (Option.none : Option Jvm.ClassFile.FieldType)) ∈ lw_all := lw_g (lw_at lw_m12 72 rfl) rfl
theorem q2840 : (Jvm.Cond.methodLink "MissCurvesModel" (462 : Nat) ({ cls := "MissCurvesModel", name := "recordAt", desc := "(II)I" } : Jvm.MethodName)) ∈ lw_all := lw_g (lw_at lw_m12 73 rfl) rfl
theorem q2841 : (Jvm.Cond.privateMethod ({ cls := "MissCurvesModel", name := "recordAt", desc := "(II)I" } : Jvm.MethodName)) ∈ lw_tbl := lw_at lw_m12 74 rfl
theorem q2842 : (Jvm.Cond.instanceMethod ({ cls := "MissCurvesModel", name := "recordAt", desc := "(II)I" } : Jvm.MethodName)) ∈ lw_all := lw_g (lw_at lw_m12 75 rfl) rfl
theorem q2843 : (Jvm.Cond.code ({ cls := "MissCurvesModel", name := "recordAt", desc := "(II)I" } : Jvm.MethodName) prog_32_method_113_code (3 : Nat) (Option.some Jvm.ClassFile.FieldType.int)) ∈ lw_all := lw_g (lw_at lw_m12 76 rfl) rfl
theorem q2844 : (Jvm.Cond.methodLink "MissCurvesModel" (485 : Nat) ({ cls := "MissCurvesModel", name := "readsAgain", desc := "(III)V" } : Jvm.MethodName)) ∈ lw_all := lw_g (lw_at lw_m12 77 rfl) rfl
theorem q2845 : (Jvm.Cond.privateMethod ({ cls := "MissCurvesModel", name := "readsAgain", desc := "(III)V" } : Jvm.MethodName)) ∈ lw_tbl := lw_at lw_m12 78 rfl
theorem q2846 : (Jvm.Cond.instanceMethod ({ cls := "MissCurvesModel", name := "readsAgain", desc := "(III)V" } : Jvm.MethodName)) ∈ lw_all := lw_g (lw_at lw_m12 79 rfl) rfl
theorem q2847 : (Jvm.Cond.code ({ cls := "MissCurvesModel", name := "readsAgain", desc := "(III)V" } : Jvm.MethodName) prog_32_method_119_code (4 : Nat) (Option.none : Option Jvm.ClassFile.FieldType)) ∈ lw_all := lw_g (lw_at lw_m12 80 rfl) rfl
theorem q2848 : (Jvm.Cond.methodLink "MissCurvesModel" (468 : Nat) ({ cls := "MissCurvesModel", name := "isIn", desc := "(JI)Z" } : Jvm.MethodName)) ∈ lw_all := lw_g (lw_at lw_m12 81 rfl) rfl
theorem q2849 : (Jvm.Cond.static ({ cls := "MissCurvesModel", name := "isIn", desc := "(JI)Z" } : Jvm.MethodName)) ∈ lw_all := lw_g (lw_at lw_m12 82 rfl) rfl
theorem q2850 : (Jvm.Cond.code ({ cls := "MissCurvesModel", name := "isIn", desc := "(JI)Z" } : Jvm.MethodName) prog_32_method_6_code (3 : Nat) (Option.some Jvm.ClassFile.FieldType.boolean)) ∈ lw_all := lw_g (lw_at lw_m12 83 rfl) rfl
theorem q2851 : (Jvm.Cond.methodLink "MissCurvesModel" (476 : Nat) ({ cls := "MissCurvesModel", name := "heldMany", desc := "(I)I" } : Jvm.MethodName)) ∈ lw_all := lw_g (lw_at lw_m12 84 rfl) rfl
theorem q2852 : (Jvm.Cond.privateMethod ({ cls := "MissCurvesModel", name := "heldMany", desc := "(I)I" } : Jvm.MethodName)) ∈ lw_tbl := lw_at lw_m12 85 rfl
theorem q2853 : (Jvm.Cond.instanceMethod ({ cls := "MissCurvesModel", name := "heldMany", desc := "(I)I" } : Jvm.MethodName)) ∈ lw_all := lw_g (lw_at lw_m12 86 rfl) rfl
theorem q2854 : (Jvm.Cond.code ({ cls := "MissCurvesModel", name := "heldMany", desc := "(I)I" } : Jvm.MethodName) prog_32_method_118_code (4 : Nat) (Option.some Jvm.ClassFile.FieldType.int)) ∈ lw_all := lw_g (lw_at lw_m12 87 rfl) rfl
theorem q2855 : (Jvm.Cond.methodLink "MissCurvesModel" (479 : Nat) ({ cls := "MissCurvesModel", name := "whoLeaves", desc := "(III)I" } : Jvm.MethodName)) ∈ lw_all := lw_g (lw_at lw_m12 88 rfl) rfl
theorem q2856 : (Jvm.Cond.privateMethod ({ cls := "MissCurvesModel", name := "whoLeaves", desc := "(III)I" } : Jvm.MethodName)) ∈ lw_tbl := lw_at lw_m12 89 rfl
theorem q2857 : (Jvm.Cond.instanceMethod ({ cls := "MissCurvesModel", name := "whoLeaves", desc := "(III)I" } : Jvm.MethodName)) ∈ lw_all := lw_g (lw_at lw_m12 90 rfl) rfl
theorem q2858 : (Jvm.Cond.code ({ cls := "MissCurvesModel", name := "whoLeaves", desc := "(III)I" } : Jvm.MethodName) prog_32_method_117_code (6 : Nat) (Option.some Jvm.ClassFile.FieldType.int)) ∈ lw_all := lw_g (lw_at lw_m12 91 rfl) rfl
theorem q2859 : (Jvm.Cond.methodLink "MissCurvesModel" (472 : Nat) ({ cls := "MissCurvesModel", name := "leavesAhead", desc := "(IIIII)Z" } : Jvm.MethodName)) ∈ lw_all := lw_g (lw_at lw_m12 92 rfl) rfl
theorem q2860 : (Jvm.Cond.privateMethod ({ cls := "MissCurvesModel", name := "leavesAhead", desc := "(IIIII)Z" } : Jvm.MethodName)) ∈ lw_tbl := lw_at lw_m12 93 rfl
theorem q2861 : (Jvm.Cond.instanceMethod ({ cls := "MissCurvesModel", name := "leavesAhead", desc := "(IIIII)Z" } : Jvm.MethodName)) ∈ lw_all := lw_g (lw_at lw_m12 94 rfl) rfl
theorem q2862 : (Jvm.Cond.code ({ cls := "MissCurvesModel", name := "leavesAhead", desc := "(IIIII)Z" } : Jvm.MethodName) prog_32_method_116_code (8 : Nat) (Option.some Jvm.ClassFile.FieldType.boolean)) ∈ lw_all := lw_g (lw_at lw_m12 95 rfl) rfl
theorem q2863 : (Jvm.Cond.methodLink "MissCurvesModel" (465 : Nat) ({ cls := "MissCurvesModel", name := "againAt", desc := "(III)I" } : Jvm.MethodName)) ∈ lw_all := lw_g (lw_at lw_m12 96 rfl) rfl
theorem q2864 : (Jvm.Cond.privateMethod ({ cls := "MissCurvesModel", name := "againAt", desc := "(III)I" } : Jvm.MethodName)) ∈ lw_tbl := lw_at lw_m12 97 rfl
theorem q2865 : (Jvm.Cond.instanceMethod ({ cls := "MissCurvesModel", name := "againAt", desc := "(III)I" } : Jvm.MethodName)) ∈ lw_all := lw_g (lw_at lw_m12 98 rfl) rfl
theorem q2866 : (Jvm.Cond.code ({ cls := "MissCurvesModel", name := "againAt", desc := "(III)I" } : Jvm.MethodName) prog_32_method_115_code (6 : Nat) (Option.some Jvm.ClassFile.FieldType.int)) ∈ lw_all := lw_g (lw_at lw_m12 99 rfl) rfl
theorem q2867 : (Jvm.Cond.methodLink "MissCurvesModel" (488 : Nat) ({ cls := "MissCurvesModel", name := "wasRead", desc := "(I)V" } : Jvm.MethodName)) ∈ lw_all := lw_g (lw_at lw_m12 100 rfl) rfl
theorem q2868 : (Jvm.Cond.privateMethod ({ cls := "MissCurvesModel", name := "wasRead", desc := "(I)V" } : Jvm.MethodName)) ∈ lw_tbl := lw_at lw_m12 101 rfl
theorem q2869 : (Jvm.Cond.instanceMethod ({ cls := "MissCurvesModel", name := "wasRead", desc := "(I)V" } : Jvm.MethodName)) ∈ lw_all := lw_g (lw_at lw_m12 102 rfl) rfl
theorem q2870 : (Jvm.Cond.code ({ cls := "MissCurvesModel", name := "wasRead", desc := "(I)V" } : Jvm.MethodName) prog_32_method_120_code (2 : Nat) (Option.none : Option Jvm.ClassFile.FieldType)) ∈ lw_all := lw_g (lw_at lw_m12 103 rfl) rfl
theorem q2872 : (Jvm.Cond.instanceMethod ({ cls := "MissCurvesModel", name := "odd", desc := "(I)I" } : Jvm.MethodName)) ∈ lw_all := lw_g (lw_at lw_m12 105 rfl) rfl
theorem q2873 : (Jvm.Cond.selects "MissCurvesModel" ({ cls := "MissCurvesModel", name := "odd", desc := "(I)I" } : Jvm.MethodName) ({ cls := "MissCurvesModel", name := "odd", desc := "(I)I" } : Jvm.MethodName)) ∈ lw_all := lw_g (lw_at lw_m12 106 rfl) rfl
theorem q2874 : (Jvm.Cond.code ({ cls := "MissCurvesModel", name := "odd", desc := "(I)I" } : Jvm.MethodName) prog_32_method_123_code (3 : Nat) (Option.some Jvm.ClassFile.FieldType.int)) ∈ lw_all := lw_g (lw_at lw_m12 107 rfl) rfl
theorem q2876 : (Jvm.Cond.instanceMethod ({ cls := "MissCurvesModel", name := "spilt", desc := "(I)I" } : Jvm.MethodName)) ∈ lw_all := lw_g (lw_at lw_m12 109 rfl) rfl
theorem q2877 : (Jvm.Cond.selects "MissCurvesModel" ({ cls := "MissCurvesModel", name := "spilt", desc := "(I)I" } : Jvm.MethodName) ({ cls := "MissCurvesModel", name := "spilt", desc := "(I)I" } : Jvm.MethodName)) ∈ lw_all := lw_g (lw_at lw_m12 110 rfl) rfl
theorem q2878 : (Jvm.Cond.code ({ cls := "MissCurvesModel", name := "spilt", desc := "(I)I" } : Jvm.MethodName) prog_32_method_124_code (4 : Nat) (Option.some Jvm.ClassFile.FieldType.int)) ∈ lw_all := lw_g (lw_at lw_m12 111 rfl) rfl
theorem q2880 : (Jvm.Cond.instanceMethod ({ cls := "MissCurvesModel", name := "seen", desc := "(II)I" } : Jvm.MethodName)) ∈ lw_all := lw_g (lw_at lw_m12 113 rfl) rfl
theorem q2881 : (Jvm.Cond.selects "MissCurvesModel" ({ cls := "MissCurvesModel", name := "seen", desc := "(II)I" } : Jvm.MethodName) ({ cls := "MissCurvesModel", name := "seen", desc := "(II)I" } : Jvm.MethodName)) ∈ lw_all := lw_g (lw_at lw_m12 114 rfl) rfl
theorem q2882 : (Jvm.Cond.code ({ cls := "MissCurvesModel", name := "seen", desc := "(II)I" } : Jvm.MethodName) prog_32_method_125_code (4 : Nat) (Option.some Jvm.ClassFile.FieldType.int)) ∈ lw_all := lw_g (lw_at lw_m12 115 rfl) rfl
theorem q2883 : (Jvm.Cond.constant "MissCurvesModel" (494 : Nat) (99999 : Int32)) ∈ lw_all := lw_g (lw_at lw_m12 116 rfl) rfl
theorem q2885 : (Jvm.Cond.instanceMethod ({ cls := "MissCurvesModel", name := "forget", desc := "()I" } : Jvm.MethodName)) ∈ lw_all := lw_g (lw_at lw_m12 118 rfl) rfl
theorem q2886 : (Jvm.Cond.selects "MissCurvesModel" ({ cls := "MissCurvesModel", name := "forget", desc := "()I" } : Jvm.MethodName) ({ cls := "MissCurvesModel", name := "forget", desc := "()I" } : Jvm.MethodName)) ∈ lw_all := lw_g (lw_at lw_m12 119 rfl) rfl
theorem q2887 : (Jvm.Cond.code ({ cls := "MissCurvesModel", name := "forget", desc := "()I" } : Jvm.MethodName) prog_32_method_126_code (2 : Nat) (Option.some Jvm.ClassFile.FieldType.int)) ∈ lw_all := lw_g (lw_at lw_m12 120 rfl) rfl
theorem q2889 : (Jvm.Cond.instanceMethod ({ cls := "MissCurvesModel", name := "canBe", desc := "()I" } : Jvm.MethodName)) ∈ lw_all := lw_g (lw_at lw_m12 122 rfl) rfl
theorem q2890 : (Jvm.Cond.selects "MissCurvesModel" ({ cls := "MissCurvesModel", name := "canBe", desc := "()I" } : Jvm.MethodName) ({ cls := "MissCurvesModel", name := "canBe", desc := "()I" } : Jvm.MethodName)) ∈ lw_all := lw_g (lw_at lw_m12 123 rfl) rfl
theorem q2891 : (Jvm.Cond.code ({ cls := "MissCurvesModel", name := "canBe", desc := "()I" } : Jvm.MethodName) prog_32_method_128_code (3 : Nat) (Option.some Jvm.ClassFile.FieldType.int)) ∈ lw_all := lw_g (lw_at lw_m12 124 rfl) rfl
theorem q2892 : (Jvm.Cond.methodLink "MissCurvesModel" (495 : Nat) ({ cls := "MissCurvesModel", name := "isSo", desc := "(I)Z" } : Jvm.MethodName)) ∈ lw_all := lw_g (lw_at lw_m12 125 rfl) rfl
theorem q2893 : (Jvm.Cond.privateMethod ({ cls := "MissCurvesModel", name := "isSo", desc := "(I)Z" } : Jvm.MethodName)) ∈ lw_tbl := lw_at lw_m12 126 rfl
theorem q2894 : (Jvm.Cond.instanceMethod ({ cls := "MissCurvesModel", name := "isSo", desc := "(I)Z" } : Jvm.MethodName)) ∈ lw_all := lw_g (lw_at lw_m12 127 rfl) rfl
theorem q2895 : (Jvm.Cond.code ({ cls := "MissCurvesModel", name := "isSo", desc := "(I)Z" } : Jvm.MethodName) prog_32_method_127_code (4 : Nat) (Option.some Jvm.ClassFile.FieldType.boolean)) ∈ lw_all := lw_g (lw_at lw_m12 128 rfl) rfl
theorem q2897 : (Jvm.Cond.instanceMethod ({ cls := "MissCurvesModel", name := "ask", desc := "(I)I" } : Jvm.MethodName)) ∈ lw_all := lw_g (lw_at lw_m12 130 rfl) rfl
theorem q2898 : (Jvm.Cond.selects "MissCurvesModel" ({ cls := "MissCurvesModel", name := "ask", desc := "(I)I" } : Jvm.MethodName) ({ cls := "MissCurvesModel", name := "ask", desc := "(I)I" } : Jvm.MethodName)) ∈ lw_all := lw_g (lw_at lw_m12 131 rfl) rfl
theorem q2899 : (Jvm.Cond.code ({ cls := "MissCurvesModel", name := "ask", desc := "(I)I" } : Jvm.MethodName) prog_32_method_130_code (7 : Nat) (Option.some Jvm.ClassFile.FieldType.int)) ∈ lw_all := lw_g (lw_at lw_m12 132 rfl) rfl
theorem q2900 : (Jvm.Cond.methodLink "MissCurvesModel" (498 : Nat) ({ cls := "MissCurvesModel", name := "canBe", desc := "()I" } : Jvm.MethodName)) ∈ lw_all := lw_g (lw_at lw_m12 133 rfl) rfl
theorem q2901 : (Jvm.Cond.methodLink "MissCurvesModel" (501 : Nat) ({ cls := "MissCurvesModel", name := "mostAlike", desc := "(II)I" } : Jvm.MethodName)) ∈ lw_all := lw_g (lw_at lw_m12 134 rfl) rfl
theorem q2902 : (Jvm.Cond.privateMethod ({ cls := "MissCurvesModel", name := "mostAlike", desc := "(II)I" } : Jvm.MethodName)) ∈ lw_tbl := lw_at lw_m12 135 rfl
theorem q2903 : (Jvm.Cond.instanceMethod ({ cls := "MissCurvesModel", name := "mostAlike", desc := "(II)I" } : Jvm.MethodName)) ∈ lw_all := lw_g (lw_at lw_m12 136 rfl) rfl
theorem q2904 : (Jvm.Cond.code ({ cls := "MissCurvesModel", name := "mostAlike", desc := "(II)I" } : Jvm.MethodName) prog_32_method_129_code (7 : Nat) (Option.some Jvm.ClassFile.FieldType.int)) ∈ lw_all := lw_g (lw_at lw_m12 137 rfl) rfl
theorem q2906 : (Jvm.Cond.instanceMethod ({ cls := "MissCurvesModel", name := "few", desc := "(II)J" } : Jvm.MethodName)) ∈ lw_all := lw_g (lw_at lw_m12 139 rfl) rfl
theorem q2907 : (Jvm.Cond.selects "MissCurvesModel" ({ cls := "MissCurvesModel", name := "few", desc := "(II)J" } : Jvm.MethodName) ({ cls := "MissCurvesModel", name := "few", desc := "(II)J" } : Jvm.MethodName)) ∈ lw_all := lw_g (lw_at lw_m12 140 rfl) rfl
theorem q2908 : (Jvm.Cond.code ({ cls := "MissCurvesModel", name := "few", desc := "(II)J" } : Jvm.MethodName) prog_32_method_131_code (6 : Nat) (Option.some Jvm.ClassFile.FieldType.long)) ∈ lw_all := lw_g (lw_at lw_m12 141 rfl) rfl
theorem q2909 : (Jvm.Cond.constantLong "MissCurvesModel" (504 : Nat) (1000000000000 : Int64)) ∈ lw_all := lw_g (lw_at lw_m12 142 rfl) rfl
theorem q2910 : (Jvm.Cond.constantLong "MissCurvesModel" (506 : Nat) (10 : Int64)) ∈ lw_all := lw_g (lw_at lw_m12 143 rfl) rfl
theorem q2912 : (Jvm.Cond.instanceMethod ({ cls := "MissCurvesModel", name := "compare", desc := "(III)I" } : Jvm.MethodName)) ∈ lw_all := lw_g (lw_at lw_m12 145 rfl) rfl
theorem q2913 : (Jvm.Cond.selects "MissCurvesModel" ({ cls := "MissCurvesModel", name := "compare", desc := "(III)I" } : Jvm.MethodName) ({ cls := "MissCurvesModel", name := "compare", desc := "(III)I" } : Jvm.MethodName)) ∈ lw_all := lw_g (lw_at lw_m12 146 rfl) rfl
theorem q2914 : (Jvm.Cond.code ({ cls := "MissCurvesModel", name := "compare", desc := "(III)I" } : Jvm.MethodName) prog_32_method_132_code (6 : Nat) (Option.some Jvm.ClassFile.FieldType.int)) ∈ lw_all := lw_g (lw_at lw_m12 147 rfl) rfl
theorem q2916 : (Jvm.Cond.instanceMethod ({ cls := "MissCurvesModel", name := "stopped", desc := "()I" } : Jvm.MethodName)) ∈ lw_all := lw_g (lw_at lw_m12 149 rfl) rfl
theorem q2917 : (Jvm.Cond.selects "MissCurvesModel" ({ cls := "MissCurvesModel", name := "stopped", desc := "()I" } : Jvm.MethodName) ({ cls := "MissCurvesModel", name := "stopped", desc := "()I" } : Jvm.MethodName)) ∈ lw_all := lw_g (lw_at lw_m12 150 rfl) rfl
theorem q2918 : (Jvm.Cond.code ({ cls := "MissCurvesModel", name := "stopped", desc := "()I" } : Jvm.MethodName) prog_32_method_133_code (1 : Nat) (Option.some Jvm.ClassFile.FieldType.int)) ∈ lw_all := lw_g (lw_at lw_m12 151 rfl) rfl
theorem q2920 : (Jvm.Cond.instanceMethod ({ cls := "MissCurvesModel", name := "orders", desc := "()I" } : Jvm.MethodName)) ∈ lw_all := lw_g (lw_at lw_m12 153 rfl) rfl
theorem q2921 : (Jvm.Cond.selects "MissCurvesModel" ({ cls := "MissCurvesModel", name := "orders", desc := "()I" } : Jvm.MethodName) ({ cls := "MissCurvesModel", name := "orders", desc := "()I" } : Jvm.MethodName)) ∈ lw_all := lw_g (lw_at lw_m12 154 rfl) rfl
theorem q2922 : (Jvm.Cond.code ({ cls := "MissCurvesModel", name := "orders", desc := "()I" } : Jvm.MethodName) prog_32_method_135_code (4 : Nat) (Option.some Jvm.ClassFile.FieldType.int)) ∈ lw_all := lw_g (lw_at lw_m12 155 rfl) rfl
theorem q2923 : (Jvm.Cond.methodLink "MissCurvesModel" (508 : Nat) ({ cls := "MissCurvesModel", name := "laysAside", desc := "(I)V" } : Jvm.MethodName)) ∈ lw_all := lw_g (lw_at lw_m12 156 rfl) rfl
theorem q2924 : (Jvm.Cond.privateMethod ({ cls := "MissCurvesModel", name := "laysAside", desc := "(I)V" } : Jvm.MethodName)) ∈ lw_tbl := lw_at lw_m12 157 rfl
theorem q2925 : (Jvm.Cond.instanceMethod ({ cls := "MissCurvesModel", name := "laysAside", desc := "(I)V" } : Jvm.MethodName)) ∈ lw_all := lw_g (lw_at lw_m12 158 rfl) rfl
theorem q2926 : (Jvm.Cond.code ({ cls := "MissCurvesModel", name := "laysAside", desc := "(I)V" } : Jvm.MethodName) prog_32_method_13_code (3 : Nat) (Option.none : Option Jvm.ClassFile.FieldType)) ∈ lw_all := lw_g (lw_at lw_m12 159 rfl) rfl
theorem q2927 : (Jvm.Cond.methodLink "MissCurvesModel" (511 : Nat) ({ cls := "MissCurvesModel", name := "laysUndone", desc := "([I[J[I[J)V" } : Jvm.MethodName)) ∈ lw_all := lw_g (lw_at lw_m12 160 rfl) rfl
theorem q2928 : (Jvm.Cond.privateMethod ({ cls := "MissCurvesModel", name := "laysUndone", desc := "([I[J[I[J)V" } : Jvm.MethodName)) ∈ lw_tbl := lw_at lw_m12 161 rfl
theorem q2929 : (Jvm.Cond.instanceMethod ({ cls := "MissCurvesModel", name := "laysUndone", desc := "([I[J[I[J)V" } : Jvm.MethodName)) ∈ lw_all := lw_g (lw_at lw_m12 162 rfl) rfl
theorem q2930 : (Jvm.Cond.code ({ cls := "MissCurvesModel", name := "laysUndone", desc := "([I[J[I[J)V" } : Jvm.MethodName) prog_32_method_134_code (6 : Nat) (Option.none : Option Jvm.ClassFile.FieldType)) ∈ lw_all := lw_g (lw_at lw_m12 163 rfl) rfl
theorem q2931 : (Jvm.Cond.methodLink "MissCurvesModel" (518 : Nat) ({ cls := "MissCurvesModel", name := "runs", desc := "(I)Z" } : Jvm.MethodName)) ∈ lw_all := lw_g (lw_at lw_m12 164 rfl) rfl
theorem q2932 : (Jvm.Cond.privateMethod ({ cls := "MissCurvesModel", name := "runs", desc := "(I)Z" } : Jvm.MethodName)) ∈ lw_tbl := lw_at lw_m12 165 rfl
theorem q2933 : (Jvm.Cond.instanceMethod ({ cls := "MissCurvesModel", name := "runs", desc := "(I)Z" } : Jvm.MethodName)) ∈ lw_all := lw_g (lw_at lw_m12 166 rfl) rfl
theorem q2934 : (Jvm.Cond.code ({ cls := "MissCurvesModel", name := "runs", desc := "(I)Z" } : Jvm.MethodName) prog_32_method_139_code (5 : Nat) (Option.some Jvm.ClassFile.FieldType.boolean)) ∈ lw_all := lw_g (lw_at lw_m12 167 rfl) rfl
theorem q2935 : (Jvm.Cond.methodLink "MissCurvesModel" (540 : Nat) ({ cls := "MissCurvesModel", name := "goesAlong", desc := "(IZ)V" } : Jvm.MethodName)) ∈ lw_all := lw_g (lw_at lw_m12 168 rfl) rfl
theorem q2936 : (Jvm.Cond.privateMethod ({ cls := "MissCurvesModel", name := "goesAlong", desc := "(IZ)V" } : Jvm.MethodName)) ∈ lw_tbl := lw_at lw_m12 169 rfl
theorem q2937 : (Jvm.Cond.instanceMethod ({ cls := "MissCurvesModel", name := "goesAlong", desc := "(IZ)V" } : Jvm.MethodName)) ∈ lw_all := lw_g (lw_at lw_m12 170 rfl) rfl
theorem q2938 : (Jvm.Cond.code ({ cls := "MissCurvesModel", name := "goesAlong", desc := "(IZ)V" } : Jvm.MethodName) prog_32_method_136_code (5 : Nat) (Option.none : Option Jvm.ClassFile.FieldType)) ∈ lw_all := lw_g (lw_at lw_m12 171 rfl) rfl
theorem q2939 : (Jvm.Cond.methodLink "MissCurvesModel" (544 : Nat) ({ cls := "MissCurvesModel", name := "obeys", desc := "()I" } : Jvm.MethodName)) ∈ lw_all := lw_g (lw_at lw_m12 172 rfl) rfl
theorem q2940 : (Jvm.Cond.privateMethod ({ cls := "MissCurvesModel", name := "obeys", desc := "()I" } : Jvm.MethodName)) ∈ lw_tbl := lw_at lw_m12 173 rfl
theorem q2941 : (Jvm.Cond.instanceMethod ({ cls := "MissCurvesModel", name := "obeys", desc := "()I" } : Jvm.MethodName)) ∈ lw_all := lw_g (lw_at lw_m12 174 rfl) rfl
theorem q2942 : (Jvm.Cond.code ({ cls := "MissCurvesModel", name := "obeys", desc := "()I" } : Jvm.MethodName) prog_32_method_138_code (2 : Nat) (Option.some Jvm.ClassFile.FieldType.int)) ∈ lw_all := lw_g (lw_at lw_m12 175 rfl) rfl
theorem q2943 : (Jvm.Cond.methodLink "MissCurvesModel" (536 : Nat) ({ cls := "MissCurvesModel", name := "small", desc := "(J)I" } : Jvm.MethodName)) ∈ lw_all := lw_g (lw_at lw_m12 176 rfl) rfl
theorem q2944 : (Jvm.Cond.static ({ cls := "MissCurvesModel", name := "small", desc := "(J)I" } : Jvm.MethodName)) ∈ lw_all := lw_g (lw_at lw_m12 177 rfl) rfl
theorem q2945 : (Jvm.Cond.code ({ cls := "MissCurvesModel", name := "small", desc := "(J)I" } : Jvm.MethodName) prog_32_method_137_code (2 : Nat) (Option.some Jvm.ClassFile.FieldType.int)) ∈ lw_all := lw_g (lw_at lw_m12 178 rfl) rfl
theorem q2946 : (Jvm.Cond.methodLink "MissCurvesModel" (521 : Nat) ({ cls := "MissCurvesModel", name := "takesBack", desc := "(I)V" } : Jvm.MethodName)) ∈ lw_all := lw_g (lw_at lw_m12 179 rfl) rfl
theorem q2947 : (Jvm.Cond.privateMethod ({ cls := "MissCurvesModel", name := "takesBack", desc := "(I)V" } : Jvm.MethodName)) ∈ lw_tbl := lw_at lw_m12 180 rfl
theorem q2948 : (Jvm.Cond.instanceMethod ({ cls := "MissCurvesModel", name := "takesBack", desc := "(I)V" } : Jvm.MethodName)) ∈ lw_all := lw_g (lw_at lw_m12 181 rfl) rfl
theorem q2949 : (Jvm.Cond.code ({ cls := "MissCurvesModel", name := "takesBack", desc := "(I)V" } : Jvm.MethodName) prog_32_method_14_code (3 : Nat) (Option.none : Option Jvm.ClassFile.FieldType)) ∈ lw_all := lw_g (lw_at lw_m12 182 rfl) rfl
theorem q2951 : (Jvm.Cond.instanceMethod ({ cls := "MissCurvesModel", name := "months", desc := "(II)I" } : Jvm.MethodName)) ∈ lw_all := lw_g (lw_at lw_m12 184 rfl) rfl
theorem q2952 : (Jvm.Cond.selects "MissCurvesModel" ({ cls := "MissCurvesModel", name := "months", desc := "(II)I" } : Jvm.MethodName) ({ cls := "MissCurvesModel", name := "months", desc := "(II)I" } : Jvm.MethodName)) ∈ lw_all := lw_g (lw_at lw_m12 185 rfl) rfl
theorem q2953 : (Jvm.Cond.code ({ cls := "MissCurvesModel", name := "months", desc := "(II)I" } : Jvm.MethodName) prog_32_method_142_code (5 : Nat) (Option.some Jvm.ClassFile.FieldType.int)) ∈ lw_all := lw_g (lw_at lw_m12 186 rfl) rfl
theorem q2954 : (Jvm.Cond.methodLink "MissCurvesModel" (562 : Nat) ({ cls := "MissCurvesModel", name := "drawnAct", desc := "()I" } : Jvm.MethodName)) ∈ lw_all := lw_g (lw_at lw_m12 187 rfl) rfl
theorem q2955 : (Jvm.Cond.privateMethod ({ cls := "MissCurvesModel", name := "drawnAct", desc := "()I" } : Jvm.MethodName)) ∈ lw_tbl := lw_at lw_m12 188 rfl
theorem q2956 : (Jvm.Cond.instanceMethod ({ cls := "MissCurvesModel", name := "drawnAct", desc := "()I" } : Jvm.MethodName)) ∈ lw_all := lw_g (lw_at lw_m12 189 rfl) rfl
theorem q2957 : (Jvm.Cond.code ({ cls := "MissCurvesModel", name := "drawnAct", desc := "()I" } : Jvm.MethodName) prog_32_method_141_code (4 : Nat) (Option.some Jvm.ClassFile.FieldType.int)) ∈ lw_all := lw_g (lw_at lw_m12 190 rfl) rfl
theorem q2958 : (Jvm.Cond.methodLink "MissCurvesModel" (556 : Nat) ({ cls := "MissCurvesModel", name := "draws", desc := "(I)I" } : Jvm.MethodName)) ∈ lw_all := lw_g (lw_at lw_m12 191 rfl) rfl
theorem q2959 : (Jvm.Cond.privateMethod ({ cls := "MissCurvesModel", name := "draws", desc := "(I)I" } : Jvm.MethodName)) ∈ lw_tbl := lw_at lw_m12 192 rfl
theorem q2960 : (Jvm.Cond.instanceMethod ({ cls := "MissCurvesModel", name := "draws", desc := "(I)I" } : Jvm.MethodName)) ∈ lw_all := lw_g (lw_at lw_m12 193 rfl) rfl
theorem q2961 : (Jvm.Cond.code ({ cls := "MissCurvesModel", name := "draws", desc := "(I)I" } : Jvm.MethodName) prog_32_method_140_code (2 : Nat) (Option.some Jvm.ClassFile.FieldType.int)) ∈ lw_all := lw_g (lw_at lw_m12 194 rfl) rfl
theorem q2962 : (Jvm.Cond.constantLong "MissCurvesModel" (547 : Nat) (1103 : Int64)) ∈ lw_all := lw_g (lw_at lw_m12 195 rfl) rfl
theorem q2963 : (Jvm.Cond.constantLong "MissCurvesModel" (552 : Nat) (12345 : Int64)) ∈ lw_all := lw_g (lw_at lw_m12 196 rfl) rfl
theorem q2964 : (Jvm.Cond.constantLong "MissCurvesModel" (554 : Nat) (1000003 : Int64)) ∈ lw_all := lw_g (lw_at lw_m12 197 rfl) rfl
theorem q2966 : (Jvm.Cond.instanceMethod ({ cls := "MissCurvesModel", name := "drawn", desc := "(II)I" } : Jvm.MethodName)) ∈ lw_all := lw_g (lw_at lw_m12 199 rfl) rfl
theorem q2967 : (Jvm.Cond.selects "MissCurvesModel" ({ cls := "MissCurvesModel", name := "drawn", desc := "(II)I" } : Jvm.MethodName) ({ cls := "MissCurvesModel", name := "drawn", desc := "(II)I" } : Jvm.MethodName)) ∈ lw_all := lw_g (lw_at lw_m12 200 rfl) rfl
theorem q2968 : (Jvm.Cond.code ({ cls := "MissCurvesModel", name := "drawn", desc := "(II)I" } : Jvm.MethodName) prog_32_method_143_code (3 : Nat) (Option.some Jvm.ClassFile.FieldType.int)) ∈ lw_all := lw_g (lw_at lw_m12 201 rfl) rfl
theorem q2970 : (Jvm.Cond.instanceMethod ({ cls := "MissCurvesModel", name := "count", desc := "(I)I" } : Jvm.MethodName)) ∈ lw_all := lw_g (lw_at lw_m12 203 rfl) rfl
theorem q2971 : (Jvm.Cond.selects "MissCurvesModel" ({ cls := "MissCurvesModel", name := "count", desc := "(I)I" } : Jvm.MethodName) ({ cls := "MissCurvesModel", name := "count", desc := "(I)I" } : Jvm.MethodName)) ∈ lw_all := lw_g (lw_at lw_m12 204 rfl) rfl
theorem q2972 : (Jvm.Cond.code ({ cls := "MissCurvesModel", name := "count", desc := "(I)I" } : Jvm.MethodName) prog_32_method_144_code (2 : Nat) (Option.some Jvm.ClassFile.FieldType.int)) ∈ lw_all := lw_g (lw_at lw_m12 205 rfl) rfl
theorem q2974 : (Jvm.Cond.instanceMethod ({ cls := "MissCurvesModel", name := "status", desc := "()I" } : Jvm.MethodName)) ∈ lw_all := lw_g (lw_at lw_m12 207 rfl) rfl
theorem q2975 : (Jvm.Cond.selects "MissCurvesModel" ({ cls := "MissCurvesModel", name := "status", desc := "()I" } : Jvm.MethodName) ({ cls := "MissCurvesModel", name := "status", desc := "()I" } : Jvm.MethodName)) ∈ lw_all := lw_g (lw_at lw_m12 208 rfl) rfl
theorem q2976 : (Jvm.Cond.code ({ cls := "MissCurvesModel", name := "status", desc := "()I" } : Jvm.MethodName) prog_32_method_145_code (1 : Nat) (Option.some Jvm.ClassFile.FieldType.int)) ∈ lw_all := lw_g (lw_at lw_m12 209 rfl) rfl
theorem q3020 : (Jvm.Cond.castable "MissCurvesModel" "java/lang/Object") ∈ lw_tbl := lw_at lw_m13 13 rfl
theorem in_X7 : ∀ w ∈ wsX70, w ∈ lw_all := lw_in wsX70 [2273, 2275, 2277, 2279, 2281, 2283, 2285, 2287, 2289, 2291, 2293, 2295, 2297, 2299, 2301, 2303, 2305, 2307, 2309, 2311, 2313, 2315, 2317, 2319, 2321, 2323, 2325, 2327, 2329, 2331, 2333, 2335, 2337, 2339, 2341, 2343, 2345, 2347, 2349, 2351, 2353, 2355, 2357, 2359, 2361, 2363, 2365, 2367, 2369, 2371, 2373, 2375, 2377, 2379, 2381, 2383, 2385, 2387, 2389, 2391, 2393, 2395, 2397, 2399] (by decide +kernel) (by decide +kernel)

set_option maxRecDepth 100000
def sM (M : MS) (x54 : Int32) (x55 : Int32) (x56 : Int32) (x57 : Int32) (x58 : Int32) (x59 : Int32) (x67 : Int32) (x68 : Int32) (x69 : Int32) (x61 : Int64) (x62 : Int64) (x63 : Int64) (x53 : Option Nat) (x60 : Option Nat) (x64 : Option Nat) (x65 : Option Nat) (x66 : Option Nat) (x70 : Nat → Nat) : MS := sG (sR (sR (sR (sR (sR (sL (sL (sL (sI (sI (sI (sI (sI (sI (sI (sI (sI M 54 x54) 55 x55) 56 x56) 57 x57) 58 x58) 59 x59) 67 x67) 68 x68) 69 x69) 61 x61) 62 x62) 63 x63) 53 x53) 60 x60) 64 x64) 65 x65) 66 x66) 70 x70
theorem sM_id (M : MS) : sM M (mI M 54) (mI M 55) (mI M 56) (mI M 57) (mI M 58) (mI M 59) (mI M 67) (mI M 68) (mI M 69) (mL M 61) (mL M 62) (mL M 63) (mR M 53) (mR M 60) (mR M 64) (mR M 65) (mR M 66) (mG M 70) = M := MS.ext (by
    show upN (upN (upN (upN (upN (upN (upN (upN (upN M.1 54 (M.1 54)) 55 (M.1 55)) 56 (M.1 56)) 57 (M.1 57)) 58 (M.1 58)) 59 (M.1 59)) 67 (M.1 67)) 68 (M.1 68)) 69 (M.1 69) = M.1
    rw [upN_same M.1 54 _ rfl, upN_same M.1 55 _ rfl, upN_same M.1 56 _ rfl, upN_same M.1 57 _ rfl, upN_same M.1 58 _ rfl, upN_same M.1 59 _ rfl, upN_same M.1 67 _ rfl, upN_same M.1 68 _ rfl, upN_same M.1 69 _ rfl]) (by
    show upN (upN (upN M.2.1 61 (M.2.1 61)) 62 (M.2.1 62)) 63 (M.2.1 63) = M.2.1
    rw [upN_same M.2.1 61 _ rfl, upN_same M.2.1 62 _ rfl, upN_same M.2.1 63 _ rfl]) (by
    show upN (upN (upN (upN (upN M.2.2.1 53 (M.2.2.1 53)) 60 (M.2.2.1 60)) 64 (M.2.2.1 64)) 65 (M.2.2.1 65)) 66 (M.2.2.1 66) = M.2.2.1
    rw [upN_same M.2.2.1 53 _ rfl, upN_same M.2.2.1 60 _ rfl, upN_same M.2.2.1 64 _ rfl, upN_same M.2.2.1 65 _ rfl, upN_same M.2.2.1 66 _ rfl]) (by
    show upN M.2.2.2.1 70 (M.2.2.2.1 70) = M.2.2.2.1
    rw [upN_same M.2.2.2.1 70 _ rfl]) rfl rfl
theorem sM_54 (M : MS) (x54 : Int32) (x55 : Int32) (x56 : Int32) (x57 : Int32) (x58 : Int32) (x59 : Int32) (x67 : Int32) (x68 : Int32) (x69 : Int32) (x61 : Int64) (x62 : Int64) (x63 : Int64) (x53 : Option Nat) (x60 : Option Nat) (x64 : Option Nat) (x65 : Option Nat) (x66 : Option Nat) (x70 : Nat → Nat) (y : Int32) : sI (sM M x54 x55 x56 x57 x58 x59 x67 x68 x69 x61 x62 x63 x53 x60 x64 x65 x66 x70) 54 y = sM M y x55 x56 x57 x58 x59 x67 x68 x69 x61 x62 x63 x53 x60 x64 x65 x66 x70 := MS.ext (by
    show upN (upN (upN (upN (upN (upN (upN (upN (upN (upN M.1 54 x54) 55 x55) 56 x56) 57 x57) 58 x58) 59 x59) 67 x67) 68 x68) 69 x69) 54 y = upN (upN (upN (upN (upN (upN (upN (upN (upN M.1 54 y) 55 x55) 56 x56) 57 x57) 58 x58) 59 x59) 67 x67) 68 x68) 69 x69
    rw [upN_comm _ _ _ (by decide : (69 : Nat) ≠ 54), upN_comm _ _ _ (by decide : (68 : Nat) ≠ 54), upN_comm _ _ _ (by decide : (67 : Nat) ≠ 54), upN_comm _ _ _ (by decide : (59 : Nat) ≠ 54), upN_comm _ _ _ (by decide : (58 : Nat) ≠ 54), upN_comm _ _ _ (by decide : (57 : Nat) ≠ 54), upN_comm _ _ _ (by decide : (56 : Nat) ≠ 54), upN_comm _ _ _ (by decide : (55 : Nat) ≠ 54), upN_upN]) rfl rfl rfl rfl rfl
theorem sM_55 (M : MS) (x54 : Int32) (x55 : Int32) (x56 : Int32) (x57 : Int32) (x58 : Int32) (x59 : Int32) (x67 : Int32) (x68 : Int32) (x69 : Int32) (x61 : Int64) (x62 : Int64) (x63 : Int64) (x53 : Option Nat) (x60 : Option Nat) (x64 : Option Nat) (x65 : Option Nat) (x66 : Option Nat) (x70 : Nat → Nat) (y : Int32) : sI (sM M x54 x55 x56 x57 x58 x59 x67 x68 x69 x61 x62 x63 x53 x60 x64 x65 x66 x70) 55 y = sM M x54 y x56 x57 x58 x59 x67 x68 x69 x61 x62 x63 x53 x60 x64 x65 x66 x70 := MS.ext (by
    show upN (upN (upN (upN (upN (upN (upN (upN (upN (upN M.1 54 x54) 55 x55) 56 x56) 57 x57) 58 x58) 59 x59) 67 x67) 68 x68) 69 x69) 55 y = upN (upN (upN (upN (upN (upN (upN (upN (upN M.1 54 x54) 55 y) 56 x56) 57 x57) 58 x58) 59 x59) 67 x67) 68 x68) 69 x69
    rw [upN_comm _ _ _ (by decide : (69 : Nat) ≠ 55), upN_comm _ _ _ (by decide : (68 : Nat) ≠ 55), upN_comm _ _ _ (by decide : (67 : Nat) ≠ 55), upN_comm _ _ _ (by decide : (59 : Nat) ≠ 55), upN_comm _ _ _ (by decide : (58 : Nat) ≠ 55), upN_comm _ _ _ (by decide : (57 : Nat) ≠ 55), upN_comm _ _ _ (by decide : (56 : Nat) ≠ 55), upN_upN]) rfl rfl rfl rfl rfl
theorem sM_56 (M : MS) (x54 : Int32) (x55 : Int32) (x56 : Int32) (x57 : Int32) (x58 : Int32) (x59 : Int32) (x67 : Int32) (x68 : Int32) (x69 : Int32) (x61 : Int64) (x62 : Int64) (x63 : Int64) (x53 : Option Nat) (x60 : Option Nat) (x64 : Option Nat) (x65 : Option Nat) (x66 : Option Nat) (x70 : Nat → Nat) (y : Int32) : sI (sM M x54 x55 x56 x57 x58 x59 x67 x68 x69 x61 x62 x63 x53 x60 x64 x65 x66 x70) 56 y = sM M x54 x55 y x57 x58 x59 x67 x68 x69 x61 x62 x63 x53 x60 x64 x65 x66 x70 := MS.ext (by
    show upN (upN (upN (upN (upN (upN (upN (upN (upN (upN M.1 54 x54) 55 x55) 56 x56) 57 x57) 58 x58) 59 x59) 67 x67) 68 x68) 69 x69) 56 y = upN (upN (upN (upN (upN (upN (upN (upN (upN M.1 54 x54) 55 x55) 56 y) 57 x57) 58 x58) 59 x59) 67 x67) 68 x68) 69 x69
    rw [upN_comm _ _ _ (by decide : (69 : Nat) ≠ 56), upN_comm _ _ _ (by decide : (68 : Nat) ≠ 56), upN_comm _ _ _ (by decide : (67 : Nat) ≠ 56), upN_comm _ _ _ (by decide : (59 : Nat) ≠ 56), upN_comm _ _ _ (by decide : (58 : Nat) ≠ 56), upN_comm _ _ _ (by decide : (57 : Nat) ≠ 56), upN_upN]) rfl rfl rfl rfl rfl
theorem sM_57 (M : MS) (x54 : Int32) (x55 : Int32) (x56 : Int32) (x57 : Int32) (x58 : Int32) (x59 : Int32) (x67 : Int32) (x68 : Int32) (x69 : Int32) (x61 : Int64) (x62 : Int64) (x63 : Int64) (x53 : Option Nat) (x60 : Option Nat) (x64 : Option Nat) (x65 : Option Nat) (x66 : Option Nat) (x70 : Nat → Nat) (y : Int32) : sI (sM M x54 x55 x56 x57 x58 x59 x67 x68 x69 x61 x62 x63 x53 x60 x64 x65 x66 x70) 57 y = sM M x54 x55 x56 y x58 x59 x67 x68 x69 x61 x62 x63 x53 x60 x64 x65 x66 x70 := MS.ext (by
    show upN (upN (upN (upN (upN (upN (upN (upN (upN (upN M.1 54 x54) 55 x55) 56 x56) 57 x57) 58 x58) 59 x59) 67 x67) 68 x68) 69 x69) 57 y = upN (upN (upN (upN (upN (upN (upN (upN (upN M.1 54 x54) 55 x55) 56 x56) 57 y) 58 x58) 59 x59) 67 x67) 68 x68) 69 x69
    rw [upN_comm _ _ _ (by decide : (69 : Nat) ≠ 57), upN_comm _ _ _ (by decide : (68 : Nat) ≠ 57), upN_comm _ _ _ (by decide : (67 : Nat) ≠ 57), upN_comm _ _ _ (by decide : (59 : Nat) ≠ 57), upN_comm _ _ _ (by decide : (58 : Nat) ≠ 57), upN_upN]) rfl rfl rfl rfl rfl
theorem sM_58 (M : MS) (x54 : Int32) (x55 : Int32) (x56 : Int32) (x57 : Int32) (x58 : Int32) (x59 : Int32) (x67 : Int32) (x68 : Int32) (x69 : Int32) (x61 : Int64) (x62 : Int64) (x63 : Int64) (x53 : Option Nat) (x60 : Option Nat) (x64 : Option Nat) (x65 : Option Nat) (x66 : Option Nat) (x70 : Nat → Nat) (y : Int32) : sI (sM M x54 x55 x56 x57 x58 x59 x67 x68 x69 x61 x62 x63 x53 x60 x64 x65 x66 x70) 58 y = sM M x54 x55 x56 x57 y x59 x67 x68 x69 x61 x62 x63 x53 x60 x64 x65 x66 x70 := MS.ext (by
    show upN (upN (upN (upN (upN (upN (upN (upN (upN (upN M.1 54 x54) 55 x55) 56 x56) 57 x57) 58 x58) 59 x59) 67 x67) 68 x68) 69 x69) 58 y = upN (upN (upN (upN (upN (upN (upN (upN (upN M.1 54 x54) 55 x55) 56 x56) 57 x57) 58 y) 59 x59) 67 x67) 68 x68) 69 x69
    rw [upN_comm _ _ _ (by decide : (69 : Nat) ≠ 58), upN_comm _ _ _ (by decide : (68 : Nat) ≠ 58), upN_comm _ _ _ (by decide : (67 : Nat) ≠ 58), upN_comm _ _ _ (by decide : (59 : Nat) ≠ 58), upN_upN]) rfl rfl rfl rfl rfl
theorem sM_59 (M : MS) (x54 : Int32) (x55 : Int32) (x56 : Int32) (x57 : Int32) (x58 : Int32) (x59 : Int32) (x67 : Int32) (x68 : Int32) (x69 : Int32) (x61 : Int64) (x62 : Int64) (x63 : Int64) (x53 : Option Nat) (x60 : Option Nat) (x64 : Option Nat) (x65 : Option Nat) (x66 : Option Nat) (x70 : Nat → Nat) (y : Int32) : sI (sM M x54 x55 x56 x57 x58 x59 x67 x68 x69 x61 x62 x63 x53 x60 x64 x65 x66 x70) 59 y = sM M x54 x55 x56 x57 x58 y x67 x68 x69 x61 x62 x63 x53 x60 x64 x65 x66 x70 := MS.ext (by
    show upN (upN (upN (upN (upN (upN (upN (upN (upN (upN M.1 54 x54) 55 x55) 56 x56) 57 x57) 58 x58) 59 x59) 67 x67) 68 x68) 69 x69) 59 y = upN (upN (upN (upN (upN (upN (upN (upN (upN M.1 54 x54) 55 x55) 56 x56) 57 x57) 58 x58) 59 y) 67 x67) 68 x68) 69 x69
    rw [upN_comm _ _ _ (by decide : (69 : Nat) ≠ 59), upN_comm _ _ _ (by decide : (68 : Nat) ≠ 59), upN_comm _ _ _ (by decide : (67 : Nat) ≠ 59), upN_upN]) rfl rfl rfl rfl rfl
theorem sM_67 (M : MS) (x54 : Int32) (x55 : Int32) (x56 : Int32) (x57 : Int32) (x58 : Int32) (x59 : Int32) (x67 : Int32) (x68 : Int32) (x69 : Int32) (x61 : Int64) (x62 : Int64) (x63 : Int64) (x53 : Option Nat) (x60 : Option Nat) (x64 : Option Nat) (x65 : Option Nat) (x66 : Option Nat) (x70 : Nat → Nat) (y : Int32) : sI (sM M x54 x55 x56 x57 x58 x59 x67 x68 x69 x61 x62 x63 x53 x60 x64 x65 x66 x70) 67 y = sM M x54 x55 x56 x57 x58 x59 y x68 x69 x61 x62 x63 x53 x60 x64 x65 x66 x70 := MS.ext (by
    show upN (upN (upN (upN (upN (upN (upN (upN (upN (upN M.1 54 x54) 55 x55) 56 x56) 57 x57) 58 x58) 59 x59) 67 x67) 68 x68) 69 x69) 67 y = upN (upN (upN (upN (upN (upN (upN (upN (upN M.1 54 x54) 55 x55) 56 x56) 57 x57) 58 x58) 59 x59) 67 y) 68 x68) 69 x69
    rw [upN_comm _ _ _ (by decide : (69 : Nat) ≠ 67), upN_comm _ _ _ (by decide : (68 : Nat) ≠ 67), upN_upN]) rfl rfl rfl rfl rfl
theorem sM_68 (M : MS) (x54 : Int32) (x55 : Int32) (x56 : Int32) (x57 : Int32) (x58 : Int32) (x59 : Int32) (x67 : Int32) (x68 : Int32) (x69 : Int32) (x61 : Int64) (x62 : Int64) (x63 : Int64) (x53 : Option Nat) (x60 : Option Nat) (x64 : Option Nat) (x65 : Option Nat) (x66 : Option Nat) (x70 : Nat → Nat) (y : Int32) : sI (sM M x54 x55 x56 x57 x58 x59 x67 x68 x69 x61 x62 x63 x53 x60 x64 x65 x66 x70) 68 y = sM M x54 x55 x56 x57 x58 x59 x67 y x69 x61 x62 x63 x53 x60 x64 x65 x66 x70 := MS.ext (by
    show upN (upN (upN (upN (upN (upN (upN (upN (upN (upN M.1 54 x54) 55 x55) 56 x56) 57 x57) 58 x58) 59 x59) 67 x67) 68 x68) 69 x69) 68 y = upN (upN (upN (upN (upN (upN (upN (upN (upN M.1 54 x54) 55 x55) 56 x56) 57 x57) 58 x58) 59 x59) 67 x67) 68 y) 69 x69
    rw [upN_comm _ _ _ (by decide : (69 : Nat) ≠ 68), upN_upN]) rfl rfl rfl rfl rfl
theorem sM_69 (M : MS) (x54 : Int32) (x55 : Int32) (x56 : Int32) (x57 : Int32) (x58 : Int32) (x59 : Int32) (x67 : Int32) (x68 : Int32) (x69 : Int32) (x61 : Int64) (x62 : Int64) (x63 : Int64) (x53 : Option Nat) (x60 : Option Nat) (x64 : Option Nat) (x65 : Option Nat) (x66 : Option Nat) (x70 : Nat → Nat) (y : Int32) : sI (sM M x54 x55 x56 x57 x58 x59 x67 x68 x69 x61 x62 x63 x53 x60 x64 x65 x66 x70) 69 y = sM M x54 x55 x56 x57 x58 x59 x67 x68 y x61 x62 x63 x53 x60 x64 x65 x66 x70 := MS.ext (by
    show upN (upN (upN (upN (upN (upN (upN (upN (upN (upN M.1 54 x54) 55 x55) 56 x56) 57 x57) 58 x58) 59 x59) 67 x67) 68 x68) 69 x69) 69 y = upN (upN (upN (upN (upN (upN (upN (upN (upN M.1 54 x54) 55 x55) 56 x56) 57 x57) 58 x58) 59 x59) 67 x67) 68 x68) 69 y
    rw [upN_upN]) rfl rfl rfl rfl rfl
theorem sM_61 (M : MS) (x54 : Int32) (x55 : Int32) (x56 : Int32) (x57 : Int32) (x58 : Int32) (x59 : Int32) (x67 : Int32) (x68 : Int32) (x69 : Int32) (x61 : Int64) (x62 : Int64) (x63 : Int64) (x53 : Option Nat) (x60 : Option Nat) (x64 : Option Nat) (x65 : Option Nat) (x66 : Option Nat) (x70 : Nat → Nat) (y : Int64) : sL (sM M x54 x55 x56 x57 x58 x59 x67 x68 x69 x61 x62 x63 x53 x60 x64 x65 x66 x70) 61 y = sM M x54 x55 x56 x57 x58 x59 x67 x68 x69 y x62 x63 x53 x60 x64 x65 x66 x70 := MS.ext rfl (by
    show upN (upN (upN (upN M.2.1 61 x61) 62 x62) 63 x63) 61 y = upN (upN (upN M.2.1 61 y) 62 x62) 63 x63
    rw [upN_comm _ _ _ (by decide : (63 : Nat) ≠ 61), upN_comm _ _ _ (by decide : (62 : Nat) ≠ 61), upN_upN]) rfl rfl rfl rfl
theorem sM_62 (M : MS) (x54 : Int32) (x55 : Int32) (x56 : Int32) (x57 : Int32) (x58 : Int32) (x59 : Int32) (x67 : Int32) (x68 : Int32) (x69 : Int32) (x61 : Int64) (x62 : Int64) (x63 : Int64) (x53 : Option Nat) (x60 : Option Nat) (x64 : Option Nat) (x65 : Option Nat) (x66 : Option Nat) (x70 : Nat → Nat) (y : Int64) : sL (sM M x54 x55 x56 x57 x58 x59 x67 x68 x69 x61 x62 x63 x53 x60 x64 x65 x66 x70) 62 y = sM M x54 x55 x56 x57 x58 x59 x67 x68 x69 x61 y x63 x53 x60 x64 x65 x66 x70 := MS.ext rfl (by
    show upN (upN (upN (upN M.2.1 61 x61) 62 x62) 63 x63) 62 y = upN (upN (upN M.2.1 61 x61) 62 y) 63 x63
    rw [upN_comm _ _ _ (by decide : (63 : Nat) ≠ 62), upN_upN]) rfl rfl rfl rfl
theorem sM_63 (M : MS) (x54 : Int32) (x55 : Int32) (x56 : Int32) (x57 : Int32) (x58 : Int32) (x59 : Int32) (x67 : Int32) (x68 : Int32) (x69 : Int32) (x61 : Int64) (x62 : Int64) (x63 : Int64) (x53 : Option Nat) (x60 : Option Nat) (x64 : Option Nat) (x65 : Option Nat) (x66 : Option Nat) (x70 : Nat → Nat) (y : Int64) : sL (sM M x54 x55 x56 x57 x58 x59 x67 x68 x69 x61 x62 x63 x53 x60 x64 x65 x66 x70) 63 y = sM M x54 x55 x56 x57 x58 x59 x67 x68 x69 x61 x62 y x53 x60 x64 x65 x66 x70 := MS.ext rfl (by
    show upN (upN (upN (upN M.2.1 61 x61) 62 x62) 63 x63) 63 y = upN (upN (upN M.2.1 61 x61) 62 x62) 63 y
    rw [upN_upN]) rfl rfl rfl rfl
theorem sM_53 (M : MS) (x54 : Int32) (x55 : Int32) (x56 : Int32) (x57 : Int32) (x58 : Int32) (x59 : Int32) (x67 : Int32) (x68 : Int32) (x69 : Int32) (x61 : Int64) (x62 : Int64) (x63 : Int64) (x53 : Option Nat) (x60 : Option Nat) (x64 : Option Nat) (x65 : Option Nat) (x66 : Option Nat) (x70 : Nat → Nat) (y : Option Nat) : sR (sM M x54 x55 x56 x57 x58 x59 x67 x68 x69 x61 x62 x63 x53 x60 x64 x65 x66 x70) 53 y = sM M x54 x55 x56 x57 x58 x59 x67 x68 x69 x61 x62 x63 y x60 x64 x65 x66 x70 := MS.ext rfl rfl (by
    show upN (upN (upN (upN (upN (upN M.2.2.1 53 x53) 60 x60) 64 x64) 65 x65) 66 x66) 53 y = upN (upN (upN (upN (upN M.2.2.1 53 y) 60 x60) 64 x64) 65 x65) 66 x66
    rw [upN_comm _ _ _ (by decide : (66 : Nat) ≠ 53), upN_comm _ _ _ (by decide : (65 : Nat) ≠ 53), upN_comm _ _ _ (by decide : (64 : Nat) ≠ 53), upN_comm _ _ _ (by decide : (60 : Nat) ≠ 53), upN_upN]) rfl rfl rfl
theorem sM_60 (M : MS) (x54 : Int32) (x55 : Int32) (x56 : Int32) (x57 : Int32) (x58 : Int32) (x59 : Int32) (x67 : Int32) (x68 : Int32) (x69 : Int32) (x61 : Int64) (x62 : Int64) (x63 : Int64) (x53 : Option Nat) (x60 : Option Nat) (x64 : Option Nat) (x65 : Option Nat) (x66 : Option Nat) (x70 : Nat → Nat) (y : Option Nat) : sR (sM M x54 x55 x56 x57 x58 x59 x67 x68 x69 x61 x62 x63 x53 x60 x64 x65 x66 x70) 60 y = sM M x54 x55 x56 x57 x58 x59 x67 x68 x69 x61 x62 x63 x53 y x64 x65 x66 x70 := MS.ext rfl rfl (by
    show upN (upN (upN (upN (upN (upN M.2.2.1 53 x53) 60 x60) 64 x64) 65 x65) 66 x66) 60 y = upN (upN (upN (upN (upN M.2.2.1 53 x53) 60 y) 64 x64) 65 x65) 66 x66
    rw [upN_comm _ _ _ (by decide : (66 : Nat) ≠ 60), upN_comm _ _ _ (by decide : (65 : Nat) ≠ 60), upN_comm _ _ _ (by decide : (64 : Nat) ≠ 60), upN_upN]) rfl rfl rfl
theorem sM_64 (M : MS) (x54 : Int32) (x55 : Int32) (x56 : Int32) (x57 : Int32) (x58 : Int32) (x59 : Int32) (x67 : Int32) (x68 : Int32) (x69 : Int32) (x61 : Int64) (x62 : Int64) (x63 : Int64) (x53 : Option Nat) (x60 : Option Nat) (x64 : Option Nat) (x65 : Option Nat) (x66 : Option Nat) (x70 : Nat → Nat) (y : Option Nat) : sR (sM M x54 x55 x56 x57 x58 x59 x67 x68 x69 x61 x62 x63 x53 x60 x64 x65 x66 x70) 64 y = sM M x54 x55 x56 x57 x58 x59 x67 x68 x69 x61 x62 x63 x53 x60 y x65 x66 x70 := MS.ext rfl rfl (by
    show upN (upN (upN (upN (upN (upN M.2.2.1 53 x53) 60 x60) 64 x64) 65 x65) 66 x66) 64 y = upN (upN (upN (upN (upN M.2.2.1 53 x53) 60 x60) 64 y) 65 x65) 66 x66
    rw [upN_comm _ _ _ (by decide : (66 : Nat) ≠ 64), upN_comm _ _ _ (by decide : (65 : Nat) ≠ 64), upN_upN]) rfl rfl rfl
theorem sM_65 (M : MS) (x54 : Int32) (x55 : Int32) (x56 : Int32) (x57 : Int32) (x58 : Int32) (x59 : Int32) (x67 : Int32) (x68 : Int32) (x69 : Int32) (x61 : Int64) (x62 : Int64) (x63 : Int64) (x53 : Option Nat) (x60 : Option Nat) (x64 : Option Nat) (x65 : Option Nat) (x66 : Option Nat) (x70 : Nat → Nat) (y : Option Nat) : sR (sM M x54 x55 x56 x57 x58 x59 x67 x68 x69 x61 x62 x63 x53 x60 x64 x65 x66 x70) 65 y = sM M x54 x55 x56 x57 x58 x59 x67 x68 x69 x61 x62 x63 x53 x60 x64 y x66 x70 := MS.ext rfl rfl (by
    show upN (upN (upN (upN (upN (upN M.2.2.1 53 x53) 60 x60) 64 x64) 65 x65) 66 x66) 65 y = upN (upN (upN (upN (upN M.2.2.1 53 x53) 60 x60) 64 x64) 65 y) 66 x66
    rw [upN_comm _ _ _ (by decide : (66 : Nat) ≠ 65), upN_upN]) rfl rfl rfl
theorem sM_66 (M : MS) (x54 : Int32) (x55 : Int32) (x56 : Int32) (x57 : Int32) (x58 : Int32) (x59 : Int32) (x67 : Int32) (x68 : Int32) (x69 : Int32) (x61 : Int64) (x62 : Int64) (x63 : Int64) (x53 : Option Nat) (x60 : Option Nat) (x64 : Option Nat) (x65 : Option Nat) (x66 : Option Nat) (x70 : Nat → Nat) (y : Option Nat) : sR (sM M x54 x55 x56 x57 x58 x59 x67 x68 x69 x61 x62 x63 x53 x60 x64 x65 x66 x70) 66 y = sM M x54 x55 x56 x57 x58 x59 x67 x68 x69 x61 x62 x63 x53 x60 x64 x65 y x70 := MS.ext rfl rfl (by
    show upN (upN (upN (upN (upN (upN M.2.2.1 53 x53) 60 x60) 64 x64) 65 x65) 66 x66) 66 y = upN (upN (upN (upN (upN M.2.2.1 53 x53) 60 x60) 64 x64) 65 x65) 66 y
    rw [upN_upN]) rfl rfl rfl
theorem sM_70 (M : MS) (x54 : Int32) (x55 : Int32) (x56 : Int32) (x57 : Int32) (x58 : Int32) (x59 : Int32) (x67 : Int32) (x68 : Int32) (x69 : Int32) (x61 : Int64) (x62 : Int64) (x63 : Int64) (x53 : Option Nat) (x60 : Option Nat) (x64 : Option Nat) (x65 : Option Nat) (x66 : Option Nat) (x70 : Nat → Nat) (y : Nat → Nat) : sG (sM M x54 x55 x56 x57 x58 x59 x67 x68 x69 x61 x62 x63 x53 x60 x64 x65 x66 x70) 70 y = sM M x54 x55 x56 x57 x58 x59 x67 x68 x69 x61 x62 x63 x53 x60 x64 x65 x66 y := MS.ext rfl rfl rfl (by
    show upN (upN M.2.2.2.1 70 x70) 70 y = upN M.2.2.2.1 70 y
    rw [upN_upN]) rfl rfl
theorem sM_re (M : MS) (x54 : Int32) (x55 : Int32) (x56 : Int32) (x57 : Int32) (x58 : Int32) (x59 : Int32) (x67 : Int32) (x68 : Int32) (x69 : Int32) (x61 : Int64) (x62 : Int64) (x63 : Int64) (x53 : Option Nat) (x60 : Option Nat) (x64 : Option Nat) (x65 : Option Nat) (x66 : Option Nat) (x70 : Nat → Nat) (y54 : Int32) (y55 : Int32) (y56 : Int32) (y57 : Int32) (y58 : Int32) (y59 : Int32) (y67 : Int32) (y68 : Int32) (y69 : Int32) (y61 : Int64) (y62 : Int64) (y63 : Int64) (y53 : Option Nat) (y60 : Option Nat) (y64 : Option Nat) (y65 : Option Nat) (y66 : Option Nat) (y70 : Nat → Nat) : sM (sM M x54 x55 x56 x57 x58 x59 x67 x68 x69 x61 x62 x63 x53 x60 x64 x65 x66 x70) y54 y55 y56 y57 y58 y59 y67 y68 y69 y61 y62 y63 y53 y60 y64 y65 y66 y70 = sM M y54 y55 y56 y57 y58 y59 y67 y68 y69 y61 y62 y63 y53 y60 y64 y65 y66 y70 := by
  show sG (sR (sR (sR (sR (sR (sL (sL (sL (sI (sI (sI (sI (sI (sI (sI (sI (sI (sM M x54 x55 x56 x57 x58 x59 x67 x68 x69 x61 x62 x63 x53 x60 x64 x65 x66 x70) 54 y54) 55 y55) 56 y56) 57 y57) 58 y58) 59 y59) 67 y67) 68 y68) 69 y69) 61 y61) 62 y62) 63 y63) 53 y53) 60 y60) 64 y64) 65 y65) 66 y66) 70 y70 = _
  rw [sM_54, sM_55, sM_56, sM_57, sM_58, sM_59, sM_67, sM_68, sM_69, sM_61, sM_62, sM_63, sM_53, sM_60, sM_64, sM_65, sM_66, sM_70]
theorem oM_sM (M : MS) (x54 : Int32) (x55 : Int32) (x56 : Int32) (x57 : Int32) (x58 : Int32) (x59 : Int32) (x67 : Int32) (x68 : Int32) (x69 : Int32) (x61 : Int64) (x62 : Int64) (x63 : Int64) (x53 : Option Nat) (x60 : Option Nat) (x64 : Option Nat) (x65 : Option Nat) (x66 : Option Nat) (x70 : Nat → Nat) (y54 : Int32) (y55 : Int32) : oM (sM M x54 x55 x56 x57 x58 x59 x67 x68 x69 x61 x62 x63 x53 x60 x64 x65 x66 x70) y54 y55 = sM M y54 y55 x56 x57 x58 x59 x67 x68 x69 x61 x62 x63 x53 x60 x64 x65 x66 x70 := by
  show sI (sI (sM M x54 x55 x56 x57 x58 x59 x67 x68 x69 x61 x62 x63 x53 x60 x64 x65 x66 x70) 54 y54) 55 y55 = _
  rw [sM_54, sM_55]
theorem qM_sM (M : MS) (x54 : Int32) (x55 : Int32) (x56 : Int32) (x57 : Int32) (x58 : Int32) (x59 : Int32) (x67 : Int32) (x68 : Int32) (x69 : Int32) (x61 : Int64) (x62 : Int64) (x63 : Int64) (x53 : Option Nat) (x60 : Option Nat) (x64 : Option Nat) (x65 : Option Nat) (x66 : Option Nat) (x70 : Nat → Nat) (y54 : Int32) (y55 : Int32) (y67 : Int32) (y68 : Int32) (y69 : Int32) (y61 : Int64) (y62 : Int64) (y63 : Int64) (y64 : Option Nat) (y65 : Option Nat) (y66 : Option Nat) (y70 : Nat → Nat) : qM (sM M x54 x55 x56 x57 x58 x59 x67 x68 x69 x61 x62 x63 x53 x60 x64 x65 x66 x70) y54 y55 y67 y68 y69 y61 y62 y63 y64 y65 y66 y70 = sM M y54 y55 x56 x57 x58 x59 y67 y68 y69 y61 y62 y63 x53 x60 y64 y65 y66 y70 := by
  show sG (sR (sR (sR (sL (sL (sL (sI (sI (sI (sI (sI (sM M x54 x55 x56 x57 x58 x59 x67 x68 x69 x61 x62 x63 x53 x60 x64 x65 x66 x70) 54 y54) 55 y55) 67 y67) 68 y68) 69 y69) 61 y61) 62 y62) 63 y63) 64 y64) 65 y65) 66 y66) 70 y70 = _
  rw [sM_54, sM_55, sM_67, sM_68, sM_69, sM_61, sM_62, sM_63, sM_64, sM_65, sM_66, sM_70]

def nt0 : NS := (none, 0, 0, none, none, none, none, none, false, fun _ => false)
def sU1 (l : List Nat) : Nat × OU := oneS l (0, true)
def sU2 (l : List Nat) : Nat × OU := oneS l (sU1 l).2
def sU3 (l : List Nat) : Nat × OU := oneS l (sU2 l).2
def sU4 (l : List Nat) : Nat × OU := oneS l (sU3 l).2
def sX5 (l : List Nat) : (NS × OU) × Bool := notesR l true (nt0, (sU4 l).2)
def sX6 (l : List Nat) : (NS × OU) × Bool := notesR l false (sX5 l).1
def sU7 (l : List Nat) : Nat × OU := someS l 2 0 (sX6 l).1.2
def sU8 (l : List Nat) : List Nat × OU := numS l (sU7 l).2
def sType (l : List Nat) : Nat := (sU2 l).1
def sHash (l : List Nat) : Nat := (sU4 l).1
def sEnd (l : List Nat) : Nat := (sX5 l).1.2.1
def sLeft (l : List Nat) : Nat := (sU7 l).1
def sNum (l : List Nat) : List Nat := (sU8 l).1
def sNote (l : List Nat) : NS := (sX6 l).1.1
def sVain (l : List Nat) : Bool := (sNote l).2.2.2.2.2.2.2.2.1 || decide ((sNote l).1 = none)
def sealOk (l : List Nat) : Bool := (sX5 l).2 && (sX6 l).2 && ((sU8 l).2.2 && decide ((sU8 l).2.1 = l.length))
/-- what holds of the model's rows at all times -/
def MI (M : MS) : Prop := (∀ j, mG M 21 j < 256) ∧ ∃ w : Nat → Bool, (∀ j, 3 ≤ j → w j = false) ∧ mG M 70 = fun j => (w j).toNat
/-- what a question may change -/
abbrev kI : List Nat := [20, 26, 48, 54, 55, 56, 57, 58, 59, 67, 68, 69]
abbrev kL : List Nat := [29, 49, 61, 62, 63]
abbrev kR : List Nat := [50, 51, 52, 53, 60, 64, 65, 66]
abbrev kG : List Nat := [21, 22, 27, 28, 30, 31, 32, 70]
def Kp (M M' : MS) : Prop := (∀ k, k ∉ kI → mI M' k = mI M k) ∧ (∀ k, k ∉ kL → mL M' k = mL M k) ∧ (∀ k, k ∉ kR → mR M' k = mR M k) ∧ (∀ k, k ∉ kG → mG M' k = mG M k) ∧ mA M' = mA M
theorem Kp.rfl' (M : MS) : Kp M M := ⟨fun _ _ => rfl, fun _ _ => rfl, fun _ _ => rfl, fun _ _ => rfl, rfl⟩
theorem Kp.trans {M M' M'' : MS} (h1 : Kp M M') (h2 : Kp M' M'') : Kp M M'' := ⟨fun k h => (h2.1 k h).trans (h1.1 k h), fun k h => (h2.2.1 k h).trans (h1.2.1 k h), fun k h => (h2.2.2.1 k h).trans (h1.2.2.1 k h), fun k h => (h2.2.2.2.1 k h).trans (h1.2.2.2.1 k h), h2.2.2.2.2.trans h1.2.2.2.2⟩
theorem Kp.sI {M M' : MS} (h : Kp M M') {k : Nat} {v : Int32} (hk : k ∈ kI) : Kp M (sI M' k v) := ⟨fun j hj => (upN_n (j := j) (k := k) (fun e => hj (by rw [e]; exact hk))).trans (h.1 j hj), h.2⟩
theorem Kp.sL {M M' : MS} (h : Kp M M') {k : Nat} {v : Int64} (hk : k ∈ kL) : Kp M (sL M' k v) := ⟨h.1, fun j hj => (upN_n (j := j) (k := k) (fun e => hj (by rw [e]; exact hk))).trans (h.2.1 j hj), h.2.2⟩
theorem Kp.sR {M M' : MS} (h : Kp M M') {k : Nat} {v : Option Nat} (hk : k ∈ kR) : Kp M (sR M' k v) := ⟨h.1, h.2.1, fun j hj => (upN_n (j := j) (k := k) (fun e => hj (by rw [e]; exact hk))).trans (h.2.2.1 j hj), h.2.2.2⟩
theorem Kp.sG {M M' : MS} (h : Kp M M') {k : Nat} {v : Nat → Nat} (hk : k ∈ kG) : Kp M (sG M' k v) := ⟨h.1, h.2.1, h.2.2.1, fun j hj => (upN_n (j := j) (k := k) (fun e => hj (by rw [e]; exact hk))).trans (h.2.2.2.1 j hj), h.2.2.2.2⟩
theorem Kp.sW {M M' : MS} (h : Kp M M') {k : Nat} {v : Nat → Int32} : Kp M (sW M' k v) := h
/-- the seal that was read -/
def SealIs (dA : Nat → ClassId) (F : va_W) (M : MS) (lb : List Nat) : Prop :=
  mI M 56 = nI (sType lb) ∧ mI M 57 = nI (sHash lb) ∧ mI M 58 = nI (sEnd lb) ∧ mI M 59 = nI (sLeft lb) ∧ (∃ q, mR M 60 = some q ∧ (q, ial dA (sNum lb)) ∈ F) ∧
  mL M 61 = oL (sNote lb).1 ∧ mL M 62 = lN (sNote lb).2.1 ∧ mL M 63 = lN (sNote lb).2.2.1 ∧ RN dA F (sNote lb) (mR M 64, mR M 65, mR M 66) ∧
  mI M 67 = oI (sNote lb).2.2.2.2.2.2.1 ∧ mI M 68 = oI (sNote lb).2.2.2.2.2.2.2.1 ∧ mI M 69 = bZ (sVain lb)
theorem oL_pos {o : Option Nat} (h : lN 0 ≤ oL o) : ¬ o = none := by
  intro e; subst e; exact absurd h (by decide)
theorem oL_neg {o : Option Nat} (hb : ∀ v, o = some v → v < 4294967296) (h : ¬ lN 0 ≤ oL o) : o = none := by
  cases o with
  | none => rfl
  | some v => have := hb v rfl; exact absurd ((pk_lLE (by decide) (by omega)).mpr (Nat.zero_le v)) h
def NB (n : Nat) (nt : NS) : Prop := (∀ v, nt.1 = some v → v < 4294967296) ∧ nt.2.1 < 4294967296 ∧ nt.2.2.1 < 4294967296 ∧ (∀ b, nt.2.2.2.1 = some b → byt b ∧ b.length = 8) ∧ (∀ b, nt.2.2.2.2.1 = some b → byt b ∧ b.length = 20) ∧ (∀ b, nt.2.2.2.2.2.1 = some b → byt b ∧ b.length ≤ n) ∧ (∀ v, nt.2.2.2.2.2.2.1 = some v → v < 256) ∧ (∀ v, nt.2.2.2.2.2.2.2.1 = some v → v < 256)
theorem nb_if {α : Type} {P : α → Prop} {o : Option α} {x : α} {c : Prop} [Decidable c] (h : ∀ v, o = some v → P v) (hx : c → P x) : ∀ v, (if c then some x else o) = some v → P v := by
  intro v hv
  by_cases hc : c
  · rw [if_pos hc] at hv; cases hv; exact hx hc
  · rw [if_neg hc] at hv; exact h v hv
theorem nb_ifn {k x o : Nat} {c : Prop} [Decidable c] (h : o < k) (hx : x < k) : (if c then x else o) < k := by
  split
  · exact hx
  · exact h
theorem byt_sliceL {l : List Nat} (h : byt l) (a n : Nat) : byt (sliceL l a n) := fun z hz => h z (List.mem_of_mem_drop (List.mem_of_mem_take hz))
theorem noteS_nb {n : Nat} {nt : NS} {note : Nat} {gr sd : Bool} {b : List Nat} (h : NB n nt) (hb : byt b) (hn : b.length ≤ n) : NB n (noteS nt note gr sd b).1 := by
  obtain ⟨a1, a2, a3, a4, a5, a6, a7, a8⟩ := h
  have h0 := byt_gD hb 0
  unfold noteS
  split
  · split
    · next q =>
      have h4 : num b < 4294967296 := by have := num_lt hb; rw [q] at this; exact this
      exact ⟨nb_if a1 (fun _ => h4), nb_ifn a2 h4, nb_ifn a3 h4, a4, a5, a6, a7, a8⟩
    · exact ⟨a1, a2, a3, a4, a5, a6, a7, a8⟩
  · split
    · split
      · next q => exact ⟨a1, a2, a3, nb_if (P := fun b : List Nat => byt b ∧ b.length = 8) a4 (fun _ => ⟨hb, q⟩), a5, a6, a7, a8⟩
      · exact ⟨a1, a2, a3, a4, a5, a6, a7, a8⟩
    · split
      · split
        · next q => exact ⟨a1, a2, a3, a4, nb_if (P := fun b : List Nat => byt b ∧ b.length = 20) a5 (fun _ => ⟨byt_sliceL hb _ _, sliceL_len (by omega)⟩), a6, a7, a8⟩
        · exact ⟨a1, a2, a3, a4, a5, a6, a7, a8⟩
      · split
        · split
          · exact ⟨a1, a2, a3, a4, a5, a6, nb_if a7 (fun _ => h0), nb_if a8 (fun _ => h0)⟩
          · exact ⟨a1, a2, a3, a4, a5, a6, a7, a8⟩
        · split
          · exact ⟨a1, a2, a3, a4, a5, nb_if (P := fun b : List Nat => byt b ∧ b.length ≤ n) a6 (fun _ => ⟨hb, hn⟩), a7, a8⟩
          · exact ⟨a1, a2, a3, a4, a5, a6, a7, a8⟩
theorem sliceL_le (l : List Nat) (a n : Nat) : (sliceL l a n).length ≤ l.length := by
  unfold sliceL
  rw [List.length_take, List.length_drop]; omega
theorem notesS_nb {l : List Nat} (hb : byt l) {sd : Bool} {en : Nat} : ∀ (f : Nat) (x : NS × OU), NB l.length x.1 → NB l.length (notesS l sd en f x).1.1 := by
  intro f
  induction f with
  | zero => intro x h; exact h
  | succ f ih =>
    intro x h
    rw [notesS]
    split
    · exact h
    · split
      · exact h
      · show NB _ (if _ then _ else _ : (NS × OU) × Bool).1.1
        split
        · exact ih _ (noteS_nb h (byt_sliceL hb _ _) (sliceL_le _ _ _))
        · exact noteS_nb h (byt_sliceL hb _ _) (sliceL_le _ _ _)
theorem notesR_nb {l : List Nat} (hb : byt l) {sd : Bool} {x : NS × OU} (h : NB l.length x.1) : NB l.length (notesR l sd x).1.1 := by
  unfold notesR
  split
  · exact h
  · exact notesS_nb hb _ _ h
theorem nt0_nb (n : Nat) : NB n nt0 := ⟨(fun v h => by simp [nt0] at h), by decide, by decide, (fun v h => by simp [nt0] at h), (fun v h => by simp [nt0] at h), (fun v h => by simp [nt0] at h), (fun v h => by simp [nt0] at h), (fun v h => by simp [nt0] at h)⟩
theorem sNote_nb {l : List Nat} (hb : byt l) : NB l.length (sNote l) := notesR_nb hb (notesR_nb hb (nt0_nb _))
theorem noteS_w {nt : NS} {note : Nat} {gr sd : Bool} {b : List Nat} {j : Nat} (hj : 3 ≤ j) : (noteS nt note gr sd b).1.2.2.2.2.2.2.2.2.2 j = nt.2.2.2.2.2.2.2.2.2 j := by
  unfold noteS
  repeat' split
  all_goals first | rfl | exact upN_n (by omega)
theorem notesS_w {l : List Nat} {sd : Bool} {en : Nat} {j : Nat} (hj : 3 ≤ j) : ∀ (f : Nat) (x : NS × OU), (notesS l sd en f x).1.1.2.2.2.2.2.2.2.2.2 j = x.1.2.2.2.2.2.2.2.2.2 j := by
  intro f
  induction f with
  | zero => intro x; rfl
  | succ f ih =>
    intro x
    rw [notesS]
    split
    · rfl
    · split
      · rfl
      · show (if _ then _ else _ : (NS × OU) × Bool).1.1.2.2.2.2.2.2.2.2.2 j = _
        split
        · rw [ih]; exact noteS_w hj
        · exact noteS_w hj
theorem notesR_w {l : List Nat} {sd : Bool} {x : NS × OU} {j : Nat} (hj : 3 ≤ j) : (notesR l sd x).1.1.2.2.2.2.2.2.2.2.2 j = x.1.2.2.2.2.2.2.2.2.2 j := by
  unfold notesR
  split
  · rfl
  · exact notesS_w hj _ _


theorem sM_kp (M : MS) (x54 : Int32) (x55 : Int32) (x56 : Int32) (x57 : Int32) (x58 : Int32) (x59 : Int32) (x67 : Int32) (x68 : Int32) (x69 : Int32) (x61 : Int64) (x62 : Int64) (x63 : Int64) (x53 : Option Nat) (x60 : Option Nat) (x64 : Option Nat) (x65 : Option Nat) (x66 : Option Nat) (x70 : Nat → Nat) : Kp M (sM M x54 x55 x56 x57 x58 x59 x67 x68 x69 x61 x62 x63 x53 x60 x64 x65 x66 x70) := ((((((((((((((((((Kp.rfl' M).sI (by decide)).sI (by decide)).sI (by decide)).sI (by decide)).sI (by decide)).sI (by decide)).sI (by decide)).sI (by decide)).sI (by decide)).sL (by decide)).sL (by decide)).sL (by decide)).sR (by decide)).sR (by decide)).sR (by decide)).sR (by decide)).sR (by decide)).sG (by decide)
set_option maxHeartbeats 400000 in
set_option maxRecDepth 100000 in
theorem c7_readSeal (l : Launch) (D : va_G) (dA : Nat → ClassId) (B : Nat) (Z : State → Prop) (hZ : Stab B Z) (h0 : Nat) (ad : Nat → Nat) (M : MS) (F : va_W) (oa : Nat) (lb : List Nat) (hI : MI M) (hoF : (oa, ial dA lb) ∈ F) (hob : byt lb) (hol : lb.length ≤ 5000) :
    Ct (S := MS × va_W) l D dA B Z yX7_readSeal cX7_readSeal 4 (some .boolean) 4 (lb.length / 2 + 1) (5 * lb.length) [.ref h0, .ref oa] (mw dA h0 ad M ++ F) (fun u => MI u.1 ∧ Kp M u.1 ∧ (sealOk lb = true → SealIs dA (F ++ u.2) u.1 lb)) (fun _ => some (.int (bZ (sealOk lb)))) (fun u => mw dA h0 ad u.1 ++ (F ++ u.2)) := by
  refine Ct.mk2 (by decide) (Nat.le_of_ble_eq_true rfl) hZ ?_
  intro p e R s m args below meth c ls Q C hr hlocks hin hQ hl h
  have C0 := C
  obtain ⟨hx, hb, hml, hown, hts, -⟩ := C0
  have hl : lv_has ls 4 [(0, .ref h0), (1, .ref oa)] := hl
  obtain ⟨hI1, wz, hw3, hwz⟩ := hI
  rw [← sM_id M] at h
  refine lv_aload_n hx hb dX7_readSeal_0 rfl (lv_at hl 0 rfl) ?_
  refine lv_aload_n hx hb dX7_readSeal_1 rfl (lv_at hl 1 rfl) ?_
  refine m_pr C h 53 (v := some oa) (by decide) rfl rfl rfl q1923 rfl rfl dX7_readSeal_2 (fun H locs h => ?_)
  rw [sM_53] at h
  have h : Wd D B s (mw dA h0 ad (sM M (mI M 54) (mI M 55) (mI M 56) (mI M 57) (mI M 58) (mI M 59) (mI M 67) (mI M 68) (mI M 69) (mL M 61) (mL M 62) (mL M 63) (some oa) (mR M 60) (mR M 64) (mR M 65) (mR M 66) (mG M 70)) ++ F) H locs := h
  refine lv_aload_n hx hb dX7_readSeal_5 rfl (lv_at hl 0 rfl) ?_
  refine lv_iconst (v := nI 0) hx hb dX7_readSeal_6 (by decide) ?_
  refine m_pi C h 54 (v := nI 0) (by decide) rfl rfl rfl q1924 rfl rfl dX7_readSeal_7 (fun H locs h => ?_)
  rw [sM_54] at h
  have h : Wd D B s (mw dA h0 ad (sM M (nI 0) (mI M 55) (mI M 56) (mI M 57) (mI M 58) (mI M 59) (mI M 67) (mI M 68) (mI M 69) (mL M 61) (mL M 62) (mL M 63) (some oa) (mR M 60) (mR M 64) (mR M 65) (mR M 66) (mG M 70)) ++ F) H locs := h
  refine lv_aload_n hx hb dX7_readSeal_10 rfl (lv_at hl 0 rfl) ?_
  refine lv_iconst (v := bZ true) hx hb dX7_readSeal_11 (by decide) ?_
  refine m_pi C h 55 (v := bZ true) (by decide) rfl rfl rfl q1925 (bZ_nar _) (bZ_fit _) dX7_readSeal_12 (fun H locs h => ?_)
  rw [sM_55] at h
  have h : Wd D B s (mw dA h0 ad (sM M (nI 0) (bZ true) (mI M 56) (mI M 57) (mI M 58) (mI M 59) (mI M 67) (mI M 68) (mI M 69) (mL M 61) (mL M 62) (mL M 63) (some oa) (mR M 60) (mR M 64) (mR M 65) (mR M 66) (mG M 70)) ++ F) H locs := h
  refine lv_aload_n hx hb dX7_readSeal_15 rfl (lv_at hl 0 rfl) ?_
  refine lv_ldc2 hx hb hown (hts _ q2348) dX7_readSeal_16 ?_
  refine m_pl C h 61 (v := (-1)) (by decide) rfl rfl rfl q1931 rfl rfl dX7_readSeal_19 (fun H locs h => ?_)
  rw [sM_61] at h
  have h : Wd D B s (mw dA h0 ad (sM M (nI 0) (bZ true) (mI M 56) (mI M 57) (mI M 58) (mI M 59) (mI M 67) (mI M 68) (mI M 69) (-1) (mL M 62) (mL M 63) (some oa) (mR M 60) (mR M 64) (mR M 65) (mR M 66) (mG M 70)) ++ F) H locs := h
  refine lv_aload_n hx hb dX7_readSeal_22 rfl (lv_at hl 0 rfl) ?_
  refine lv_lconst (v := lN 0) hx hb dX7_readSeal_23 (by decide) ?_
  refine m_pl C h 62 (v := lN 0) (by decide) rfl rfl rfl q1932 rfl rfl dX7_readSeal_24 (fun H locs h => ?_)
  rw [sM_62] at h
  have h : Wd D B s (mw dA h0 ad (sM M (nI 0) (bZ true) (mI M 56) (mI M 57) (mI M 58) (mI M 59) (mI M 67) (mI M 68) (mI M 69) (-1) (lN 0) (mL M 63) (some oa) (mR M 60) (mR M 64) (mR M 65) (mR M 66) (mG M 70)) ++ F) H locs := h
  refine lv_aload_n hx hb dX7_readSeal_27 rfl (lv_at hl 0 rfl) ?_
  refine lv_lconst (v := lN 0) hx hb dX7_readSeal_28 (by decide) ?_
  refine m_pl C h 63 (v := lN 0) (by decide) rfl rfl rfl q1933 rfl rfl dX7_readSeal_29 (fun H locs h => ?_)
  rw [sM_63] at h
  have h : Wd D B s (mw dA h0 ad (sM M (nI 0) (bZ true) (mI M 56) (mI M 57) (mI M 58) (mI M 59) (mI M 67) (mI M 68) (mI M 69) (-1) (lN 0) (lN 0) (some oa) (mR M 60) (mR M 64) (mR M 65) (mR M 66) (mG M 70)) ++ F) H locs := h
  refine lv_aload_n hx hb dX7_readSeal_32 rfl (lv_at hl 0 rfl) ?_
  refine lv_null hx hb dX7_readSeal_33 ?_
  refine m_pr C h 64 (v := none) (by decide) rfl rfl rfl q1934 rfl rfl dX7_readSeal_34 (fun H locs h => ?_)
  rw [sM_64] at h
  have h : Wd D B s (mw dA h0 ad (sM M (nI 0) (bZ true) (mI M 56) (mI M 57) (mI M 58) (mI M 59) (mI M 67) (mI M 68) (mI M 69) (-1) (lN 0) (lN 0) (some oa) (mR M 60) none (mR M 65) (mR M 66) (mG M 70)) ++ F) H locs := h
  refine lv_aload_n hx hb dX7_readSeal_37 rfl (lv_at hl 0 rfl) ?_
  refine lv_null hx hb dX7_readSeal_38 ?_
  refine m_pr C h 65 (v := none) (by decide) rfl rfl rfl q1935 rfl rfl dX7_readSeal_39 (fun H locs h => ?_)
  rw [sM_65] at h
  have h : Wd D B s (mw dA h0 ad (sM M (nI 0) (bZ true) (mI M 56) (mI M 57) (mI M 58) (mI M 59) (mI M 67) (mI M 68) (mI M 69) (-1) (lN 0) (lN 0) (some oa) (mR M 60) none none (mR M 66) (mG M 70)) ++ F) H locs := h
  refine lv_aload_n hx hb dX7_readSeal_42 rfl (lv_at hl 0 rfl) ?_
  refine lv_null hx hb dX7_readSeal_43 ?_
  refine m_pr C h 66 (v := none) (by decide) rfl rfl rfl q1936 rfl rfl dX7_readSeal_44 (fun H locs h => ?_)
  rw [sM_66] at h
  have h : Wd D B s (mw dA h0 ad (sM M (nI 0) (bZ true) (mI M 56) (mI M 57) (mI M 58) (mI M 59) (mI M 67) (mI M 68) (mI M 69) (-1) (lN 0) (lN 0) (some oa) (mR M 60) none none none (mG M 70)) ++ F) H locs := h
  refine lv_aload_n hx hb dX7_readSeal_47 rfl (lv_at hl 0 rfl) ?_
  refine lv_iconst (v := -1) hx hb dX7_readSeal_48 (by decide) ?_
  refine m_pi C h 67 (v := -1) (by decide) rfl rfl rfl q1937 rfl rfl dX7_readSeal_49 (fun H locs h => ?_)
  rw [sM_67] at h
  have h : Wd D B s (mw dA h0 ad (sM M (nI 0) (bZ true) (mI M 56) (mI M 57) (mI M 58) (mI M 59) (-1) (mI M 68) (mI M 69) (-1) (lN 0) (lN 0) (some oa) (mR M 60) none none none (mG M 70)) ++ F) H locs := h
  refine lv_aload_n hx hb dX7_readSeal_52 rfl (lv_at hl 0 rfl) ?_
  refine lv_iconst (v := -1) hx hb dX7_readSeal_53 (by decide) ?_
  refine m_pi C h 68 (v := -1) (by decide) rfl rfl rfl q1938 rfl rfl dX7_readSeal_54 (fun H locs h => ?_)
  rw [sM_68] at h
  have h : Wd D B s (mw dA h0 ad (sM M (nI 0) (bZ true) (mI M 56) (mI M 57) (mI M 58) (mI M 59) (-1) (-1) (mI M 69) (-1) (lN 0) (lN 0) (some oa) (mR M 60) none none none (mG M 70)) ++ F) H locs := h
  refine lv_aload_n hx hb dX7_readSeal_57 rfl (lv_at hl 0 rfl) ?_
  refine lv_iconst (v := bZ false) hx hb dX7_readSeal_58 (by decide) ?_
  refine m_pi C h 69 (v := bZ false) (by decide) rfl rfl rfl q1939 (bZ_nar _) (bZ_fit _) dX7_readSeal_59 (fun H locs h => ?_)
  rw [sM_69] at h
  have h : Wd D B s (mw dA h0 ad (sM M (nI 0) (bZ true) (mI M 56) (mI M 57) (mI M 58) (mI M 59) (-1) (-1) (bZ false) (-1) (lN 0) (lN 0) (some oa) (mR M 60) none none none (mG M 70)) ++ F) H locs := h
  refine lv_iconst (v := nI 0) hx hb dX7_readSeal_62 (by decide) ?_
  refine lv_istore_n (lv' := [(2, .int (nI 0)), (0, .ref h0), (1, .ref oa)]) hx hb dX7_readSeal_63 rfl hl (by decide) rfl (fun ls hl => ?_)
  refine lv_iload_n hx hb dX7_readSeal_64 rfl (lv_at hl 0 rfl) ?_
  refine lv_iconst (v := nI 3) hx hb dX7_readSeal_65 (by decide) ?_
  refine n_icmp_ge (tgt := 82) hx hb (by omega) (by omega) dX7_readSeal_66 (by decide) (fun c66 => by exfalso; omega) (fun c66 => ?_)
  refine lv_aload_n hx hb dX7_readSeal_69 rfl (lv_at hl 1 rfl) ?_
  refine m_gc C h 70 (by decide) rfl rfl q1940 dX7_readSeal_70 ?_
  refine lv_iload_n hx hb dX7_readSeal_73 rfl (lv_at hl 0 rfl) ?_
  refine lv_iconst (v := bZ false) hx hb dX7_readSeal_74 (by decide) ?_
  refine m_zast C h (b := false) (w := wz) (i := 0) hwz (by decide) dX7_readSeal_75 (fun H locs h => ?_)
  rw [sM_70] at h
  have h : Wd D B s (mw dA h0 ad (sM M (nI 0) (bZ true) (mI M 56) (mI M 57) (mI M 58) (mI M 59) (-1) (-1) (bZ false) (-1) (lN 0) (lN 0) (some oa) (mR M 60) none none none (fun j => (upN wz 0 false j).toNat)) ++ F) H locs := h
  refine lv_iinc (v := nI 1) (lv' := [(2, .int (nI 1)), (0, .ref h0), (1, .ref oa)]) hx hb dX7_readSeal_76 hl (k := 0) rfl (by decide) (by decide) rfl (fun ls hl => ?_)
  refine lv_goto (tgt := 64) hx hb dX7_readSeal_79 (by decide) ?_
  refine lv_iload_n hx hb dX7_readSeal_64 rfl (lv_at hl 0 rfl) ?_
  refine lv_iconst (v := nI 3) hx hb dX7_readSeal_65 (by decide) ?_
  refine n_icmp_ge (tgt := 82) hx hb (by omega) (by omega) dX7_readSeal_66 (by decide) (fun c66 => by exfalso; omega) (fun c66 => ?_)
  refine lv_aload_n hx hb dX7_readSeal_69 rfl (lv_at hl 1 rfl) ?_
  refine m_gc C h 70 (by decide) rfl rfl q1940 dX7_readSeal_70 ?_
  refine lv_iload_n hx hb dX7_readSeal_73 rfl (lv_at hl 0 rfl) ?_
  refine lv_iconst (v := bZ false) hx hb dX7_readSeal_74 (by decide) ?_
  refine m_zast C h (b := false) (w := upN wz 0 false) (i := 1) rfl (by decide) dX7_readSeal_75 (fun H locs h => ?_)
  rw [sM_70] at h
  have h : Wd D B s (mw dA h0 ad (sM M (nI 0) (bZ true) (mI M 56) (mI M 57) (mI M 58) (mI M 59) (-1) (-1) (bZ false) (-1) (lN 0) (lN 0) (some oa) (mR M 60) none none none (fun j => (upN (upN wz 0 false) 1 false j).toNat)) ++ F) H locs := h
  refine lv_iinc (v := nI 2) (lv' := [(2, .int (nI 2)), (0, .ref h0), (1, .ref oa)]) hx hb dX7_readSeal_76 hl (k := 0) rfl (by decide) (by decide) rfl (fun ls hl => ?_)
  refine lv_goto (tgt := 64) hx hb dX7_readSeal_79 (by decide) ?_
  refine lv_iload_n hx hb dX7_readSeal_64 rfl (lv_at hl 0 rfl) ?_
  refine lv_iconst (v := nI 3) hx hb dX7_readSeal_65 (by decide) ?_
  refine n_icmp_ge (tgt := 82) hx hb (by omega) (by omega) dX7_readSeal_66 (by decide) (fun c66 => by exfalso; omega) (fun c66 => ?_)
  refine lv_aload_n hx hb dX7_readSeal_69 rfl (lv_at hl 1 rfl) ?_
  refine m_gc C h 70 (by decide) rfl rfl q1940 dX7_readSeal_70 ?_
  refine lv_iload_n hx hb dX7_readSeal_73 rfl (lv_at hl 0 rfl) ?_
  refine lv_iconst (v := bZ false) hx hb dX7_readSeal_74 (by decide) ?_
  refine m_zast C h (b := false) (w := upN (upN wz 0 false) 1 false) (i := 2) rfl (by decide) dX7_readSeal_75 (fun H locs h => ?_)
  rw [sM_70] at h
  have h : Wd D B s (mw dA h0 ad (sM M (nI 0) (bZ true) (mI M 56) (mI M 57) (mI M 58) (mI M 59) (-1) (-1) (bZ false) (-1) (lN 0) (lN 0) (some oa) (mR M 60) none none none (fun j => (upN (upN (upN wz 0 false) 1 false) 2 false j).toNat)) ++ F) H locs := h
  refine lv_iinc (v := nI 3) (lv' := [(2, .int (nI 3)), (0, .ref h0), (1, .ref oa)]) hx hb dX7_readSeal_76 hl (k := 0) rfl (by decide) (by decide) rfl (fun ls hl => ?_)
  refine lv_goto (tgt := 64) hx hb dX7_readSeal_79 (by decide) ?_
  refine lv_iload_n hx hb dX7_readSeal_64 rfl (lv_at hl 0 rfl) ?_
  refine lv_iconst (v := nI 3) hx hb dX7_readSeal_65 (by decide) ?_
  refine n_icmp_ge (tgt := 82) hx hb (by omega) (by omega) dX7_readSeal_66 (by decide) (fun c66 => ?_) (fun c66 => by exfalso; omega)
  have ew : (fun j => (upN (upN (upN wz 0 false) 1 false) 2 false j).toNat) = fun j => (nt0.2.2.2.2.2.2.2.2.2 j).toNat := by
    funext j
    congr 1
    rw [upN_if, upN_if, upN_if]
    split; rfl
    split; rfl
    split; rfl
    exact hw3 j (by omega)
  rw [ew] at h
  have hl_sU1 : (sU1 lb).2.1 ≤ lb.length := (oneS_le (Nat.zero_le _)).1
  have hl_sU2 : (sU2 lb).2.1 ≤ lb.length := (oneS_le hl_sU1).1
  have hl_sU3 : (sU3 lb).2.1 ≤ lb.length := (oneS_le hl_sU2).1
  have hl_sU4 : (sU4 lb).2.1 ≤ lb.length := (oneS_le hl_sU3).1
  have hl_x5 : (sX5 lb).1.2.1 ≤ lb.length := notesR_le hob true _ hl_sU4
  have hl_x6 : (sX6 lb).1.2.1 ≤ lb.length := notesR_le hob false _ hl_x5
  have hl_sU7 := someS_ok hob 2 0 0 (sX6 lb).1.2 hl_x6 (by decide)
  have hl_sU8 := numS_ok hob (sU7 lb).2 hl_sU7.2.1
  have hl_8 : (sU8 lb).2.1 ≤ lb.length := hl_sU8.1
  have h8_sU1 : (sU1 lb).1 < 256 := oneS_lt hob _
  have h8_sU2 : (sU2 lb).1 < 256 := oneS_lt hob _
  have h8_sU3 : (sU3 lb).1 < 256 := oneS_lt hob _
  have h8_sU4 : (sU4 lb).1 < 256 := oneS_lt hob _
  have h : Wd D B s (mw dA h0 ad (sM M (nI 0) (bZ true) (mI M 56) (mI M 57) (mI M 58) (mI M 59) (-1) (-1) (bZ false) (-1) (lN 0) (lN 0) (some oa) (mR M 60) none none none (fun j => (nt0.2.2.2.2.2.2.2.2.2 j).toNat)) ++ (F ++ [])) H locs := by rw [List.append_nil]; exact h
  refine lv_aload_n hx hb dX7_readSeal_82 rfl (lv_at hl 1 rfl) ?_
  have h : Wd D B s (mw dA h0 ad (oM (sM M (nI 0) (bZ true) (mI M 56) (mI M 57) (mI M 58) (mI M 59) (-1) (-1) (bZ false) (-1) (lN 0) (lN 0) (some oa) (mR M 60) none none none (fun j => (nt0.2.2.2.2.2.2.2.2.2 j).toNat)) (nI ((0, true) : OU).1) (bZ ((0, true) : OU).2)) ++ (F ++ [])) H locs := by rw [oM_sM]; exact h
  refine call_V (As := []) (rest := []) (n := 0) C h (c7_one l D dA B Z hZ h0 ad (sM M (nI 0) (bZ true) (mI M 56) (mI M 57) (mI M 58) (mI M 59) (-1) (-1) (bZ false) (-1) (lN 0) (lN 0) (some oa) (mR M 60) none none none (fun j => (nt0.2.2.2.2.2.2.2.2.2 j).toNat)) (F ++ []) oa lb ((0, true) : OU) rfl (List.mem_append_left _ hoF) hob hol (Nat.zero_le _)) (lw_V q2221 q2223 qs61 q138 q2224) (by decide +kernel) (ci := 5) rfl rfl mw_mem0 (by decide) (by decide) rfl hl rfl (Nat.le_of_ble_eq_true rfl) dX7_readSeal_83 (by omega) (fun _ H locs _ h => ?_)
  rw [oM_sM] at h
  have h : Wd D B s (mw dA h0 ad (sM M (nI ((sU1 lb).2.1)) (bZ ((sU1 lb).2.2)) (mI M 56) (mI M 57) (mI M 58) (mI M 59) (-1) (-1) (bZ false) (-1) (lN 0) (lN 0) (some oa) (mR M 60) none none none (fun j => (nt0.2.2.2.2.2.2.2.2.2 j).toNat)) ++ (F ++ [])) H locs := h
  show W p l e R s m args below meth c H locs (0 + 0) (0 + 0) Q (F0 m 86 ls [.int (nI ((sU1 lb).1))])
  refine lv_istore_n (lv' := [(2, .int (nI ((sU1 lb).1))), (0, .ref h0), (1, .ref oa)]) hx hb dX7_readSeal_86 rfl hl (by decide) rfl (fun ls hl => ?_)
  refine lv_aload_n hx hb dX7_readSeal_87 rfl (lv_at hl 1 rfl) ?_
  refine lv_aload_n hx hb dX7_readSeal_88 rfl (lv_at hl 1 rfl) ?_
  have h : Wd D B s (mw dA h0 ad (oM (sM M (nI ((sU1 lb).2.1)) (bZ ((sU1 lb).2.2)) (mI M 56) (mI M 57) (mI M 58) (mI M 59) (-1) (-1) (bZ false) (-1) (lN 0) (lN 0) (some oa) (mR M 60) none none none (fun j => (nt0.2.2.2.2.2.2.2.2.2 j).toNat)) (nI (sU1 lb).2.1) (bZ (sU1 lb).2.2)) ++ (F ++ [])) H locs := by rw [oM_sM]; exact h
  refine call_V (As := []) (rest := [.ref h0]) (n := 0) C h (c7_one l D dA B Z hZ h0 ad (sM M (nI ((sU1 lb).2.1)) (bZ ((sU1 lb).2.2)) (mI M 56) (mI M 57) (mI M 58) (mI M 59) (-1) (-1) (bZ false) (-1) (lN 0) (lN 0) (some oa) (mR M 60) none none none (fun j => (nt0.2.2.2.2.2.2.2.2.2 j).toNat)) (F ++ []) oa lb (sU1 lb).2 rfl (List.mem_append_left _ hoF) hob hol hl_sU1) (lw_V q2221 q2223 qs61 q138 q2224) (by decide +kernel) (ci := 5) rfl rfl mw_mem0 (by decide) (by decide) rfl hl rfl (Nat.le_of_ble_eq_true rfl) dX7_readSeal_89 (by omega) (fun _ H locs _ h => ?_)
  rw [oM_sM] at h
  have h : Wd D B s (mw dA h0 ad (sM M (nI ((sU2 lb).2.1)) (bZ ((sU2 lb).2.2)) (mI M 56) (mI M 57) (mI M 58) (mI M 59) (-1) (-1) (bZ false) (-1) (lN 0) (lN 0) (some oa) (mR M 60) none none none (fun j => (nt0.2.2.2.2.2.2.2.2.2 j).toNat)) ++ (F ++ [])) H locs := h
  show W p l e R s m args below meth c H locs (0 + 0 + 0) (0 + 0 + 0) Q (F0 m 92 ls [.int (nI ((sU2 lb).1)), .ref h0])
  refine m_pi C h 56 (v := nI ((sU2 lb).1)) (by decide) rfl rfl rfl q1926 rfl rfl dX7_readSeal_92 (fun H locs h => ?_)
  rw [sM_56] at h
  have h : Wd D B s (mw dA h0 ad (sM M (nI ((sU2 lb).2.1)) (bZ ((sU2 lb).2.2)) (nI ((sU2 lb).1)) (mI M 57) (mI M 58) (mI M 59) (-1) (-1) (bZ false) (-1) (lN 0) (lN 0) (some oa) (mR M 60) none none none (fun j => (nt0.2.2.2.2.2.2.2.2.2 j).toNat)) ++ (F ++ [])) H locs := h
  refine lv_aload_n hx hb dX7_readSeal_95 rfl (lv_at hl 1 rfl) ?_
  have h : Wd D B s (mw dA h0 ad (oM (sM M (nI ((sU2 lb).2.1)) (bZ ((sU2 lb).2.2)) (nI ((sU2 lb).1)) (mI M 57) (mI M 58) (mI M 59) (-1) (-1) (bZ false) (-1) (lN 0) (lN 0) (some oa) (mR M 60) none none none (fun j => (nt0.2.2.2.2.2.2.2.2.2 j).toNat)) (nI (sU2 lb).2.1) (bZ (sU2 lb).2.2)) ++ (F ++ [])) H locs := by rw [oM_sM]; exact h
  refine call_V (As := []) (rest := []) (n := 0) C h (c7_one l D dA B Z hZ h0 ad (sM M (nI ((sU2 lb).2.1)) (bZ ((sU2 lb).2.2)) (nI ((sU2 lb).1)) (mI M 57) (mI M 58) (mI M 59) (-1) (-1) (bZ false) (-1) (lN 0) (lN 0) (some oa) (mR M 60) none none none (fun j => (nt0.2.2.2.2.2.2.2.2.2 j).toNat)) (F ++ []) oa lb (sU2 lb).2 rfl (List.mem_append_left _ hoF) hob hol hl_sU2) (lw_V q2221 q2223 qs61 q138 q2224) (by decide +kernel) (ci := 5) rfl rfl mw_mem0 (by decide) (by decide) rfl hl rfl (Nat.le_of_ble_eq_true rfl) dX7_readSeal_96 (by omega) (fun _ H locs _ h => ?_)
  rw [oM_sM] at h
  have h : Wd D B s (mw dA h0 ad (sM M (nI ((sU3 lb).2.1)) (bZ ((sU3 lb).2.2)) (nI ((sU2 lb).1)) (mI M 57) (mI M 58) (mI M 59) (-1) (-1) (bZ false) (-1) (lN 0) (lN 0) (some oa) (mR M 60) none none none (fun j => (nt0.2.2.2.2.2.2.2.2.2 j).toNat)) ++ (F ++ [])) H locs := h
  show W p l e R s m args below meth c H locs (0 + 0 + 0 + 0) (0 + 0 + 0 + 0) Q (F0 m 99 ls [.int (nI ((sU3 lb).1))])
  refine lv_istore_n (lv' := [(3, .int (nI ((sU3 lb).1))), (2, .int (nI ((sU1 lb).1))), (0, .ref h0), (1, .ref oa)]) hx hb dX7_readSeal_99 rfl hl (by decide) rfl (fun ls hl => ?_)
  refine lv_aload_n hx hb dX7_readSeal_100 rfl (lv_at hl 2 rfl) ?_
  refine lv_aload_n hx hb dX7_readSeal_101 rfl (lv_at hl 2 rfl) ?_
  have h : Wd D B s (mw dA h0 ad (oM (sM M (nI ((sU3 lb).2.1)) (bZ ((sU3 lb).2.2)) (nI ((sU2 lb).1)) (mI M 57) (mI M 58) (mI M 59) (-1) (-1) (bZ false) (-1) (lN 0) (lN 0) (some oa) (mR M 60) none none none (fun j => (nt0.2.2.2.2.2.2.2.2.2 j).toNat)) (nI (sU3 lb).2.1) (bZ (sU3 lb).2.2)) ++ (F ++ [])) H locs := by rw [oM_sM]; exact h
  refine call_V (As := []) (rest := [.ref h0]) (n := 0) C h (c7_one l D dA B Z hZ h0 ad (sM M (nI ((sU3 lb).2.1)) (bZ ((sU3 lb).2.2)) (nI ((sU2 lb).1)) (mI M 57) (mI M 58) (mI M 59) (-1) (-1) (bZ false) (-1) (lN 0) (lN 0) (some oa) (mR M 60) none none none (fun j => (nt0.2.2.2.2.2.2.2.2.2 j).toNat)) (F ++ []) oa lb (sU3 lb).2 rfl (List.mem_append_left _ hoF) hob hol hl_sU3) (lw_V q2221 q2223 qs61 q138 q2224) (by decide +kernel) (ci := 5) rfl rfl mw_mem0 (by decide) (by decide) rfl hl rfl (Nat.le_of_ble_eq_true rfl) dX7_readSeal_102 (by omega) (fun _ H locs _ h => ?_)
  rw [oM_sM] at h
  have h : Wd D B s (mw dA h0 ad (sM M (nI ((sU4 lb).2.1)) (bZ ((sU4 lb).2.2)) (nI ((sU2 lb).1)) (mI M 57) (mI M 58) (mI M 59) (-1) (-1) (bZ false) (-1) (lN 0) (lN 0) (some oa) (mR M 60) none none none (fun j => (nt0.2.2.2.2.2.2.2.2.2 j).toNat)) ++ (F ++ [])) H locs := h
  show W p l e R s m args below meth c H locs (0 + 0 + 0 + 0 + 0) (0 + 0 + 0 + 0 + 0) Q (F0 m 105 ls [.int (nI ((sU4 lb).1)), .ref h0])
  refine m_pi C h 57 (v := nI ((sU4 lb).1)) (by decide) rfl rfl rfl q1927 rfl rfl dX7_readSeal_105 (fun H locs h => ?_)
  rw [sM_57] at h
  have h : Wd D B s (mw dA h0 ad (sM M (nI ((sU4 lb).2.1)) (bZ ((sU4 lb).2.2)) (nI ((sU2 lb).1)) (nI ((sU4 lb).1)) (mI M 58) (mI M 59) (-1) (-1) (bZ false) (-1) (lN 0) (lN 0) (some oa) (mR M 60) none none none (fun j => (nt0.2.2.2.2.2.2.2.2.2 j).toNat)) ++ (F ++ [])) H locs := h
  refine lv_aload_n hx hb dX7_readSeal_108 rfl (lv_at hl 2 rfl) ?_
  refine lv_iconst (v := bZ true) hx hb dX7_readSeal_109 (by decide) ?_
  have h : Wd D B s (mw dA h0 ad (qWm (sM M (nI ((sU4 lb).2.1)) (bZ ((sU4 lb).2.2)) (nI ((sU2 lb).1)) (nI ((sU4 lb).1)) (mI M 58) (mI M 59) (-1) (-1) (bZ false) (-1) (lN 0) (lN 0) (some oa) (mR M 60) none none none (fun j => (nt0.2.2.2.2.2.2.2.2.2 j).toNat)) ((nt0, (sU4 lb).2) : NS × OU).1 (none, none, none) ((nt0, (sU4 lb).2) : NS × OU).2) ++ (F ++ [])) H locs := by unfold qWm; rw [qM_sM]; exact h
  refine call_V (As := [.int (bZ true)]) (rest := []) (n := 1) C h (c7_readNotes l D dA B Z hZ h0 ad (sM M (nI ((sU4 lb).2.1)) (bZ ((sU4 lb).2.2)) (nI ((sU2 lb).1)) (nI ((sU4 lb).1)) (mI M 58) (mI M 59) (-1) (-1) (bZ false) (-1) (lN 0) (lN 0) (some oa) (mR M 60) none none none (fun j => (nt0.2.2.2.2.2.2.2.2.2 j).toNat)) (F ++ []) oa lb ((nt0, (sU4 lb).2) : NS × OU) (none, none, none) true rfl (List.mem_append_left _ hoF) hob hol ⟨rfl, rfl, rfl⟩ hl_sU4) (lw_V q2349 q2351 qs84 q138 q2352) (by decide +kernel) (ci := 5) rfl rfl mw_mem0 (by decide) (by decide) rfl hl rfl (Nat.le_of_ble_eq_true rfl) dX7_readSeal_110 (by
    have z5 : (sX5 lb).1.2.1 ≤ lb.length := hl_x5
    have z6 : (sX6 lb).1.2.1 ≤ lb.length := notesR_le hob false _ hl_x5
    have z4 : (sU4 lb).2.1 ≤ lb.length := hl_sU4
    have z3 : ((nt0, (sU4 lb).2) : NS × OU).2.1 = (sU4 lb).2.1 := rfl
    have z7 : (sX5 lb).1.2.1 = (notesR lb true (nt0, (sU4 lb).2)).1.2.1 := rfl
    have z8 : (sX6 lb).1.2.1 = (notesR lb false (sX5 lb).1).1.2.1 := rfl
    omega) (fun u9 H locs hu h => ?_)
  obtain ⟨r5, E5⟩ := u9
  unfold qWm at h
  rw [qM_sM, List.append_assoc] at h
  have hRE5 : RN dA (F ++ E5) (sX5 lb).1.1 r5 := by
    have q : RN dA (F ++ [] ++ E5) (sX5 lb).1.1 r5 := hu
    rw [List.append_assoc] at q; exact q
  have h : Wd D B s (mw dA h0 ad (sM M (nI ((sX5 lb).1.2.1)) (bZ ((sX5 lb).1.2.2)) (nI ((sU2 lb).1)) (nI ((sU4 lb).1)) (mI M 58) (mI M 59) (oI (sX5 lb).1.1.2.2.2.2.2.2.1) (oI (sX5 lb).1.1.2.2.2.2.2.2.2.1) (bZ ((sX5 lb).1.1.2.2.2.2.2.2.2.2.1)) (oL (sX5 lb).1.1.1) (lN ((sX5 lb).1.1.2.1)) (lN ((sX5 lb).1.1.2.2.1)) (some oa) (mR M 60) r5.1 r5.2.1 r5.2.2 (fun j => ((sX5 lb).1.1.2.2.2.2.2.2.2.2.2 j).toNat)) ++ (F ++ E5)) H locs := h
  show W p l e R s m args below meth c H locs (0 + 0 + 0 + 0 + 0 + (((sX5 lb).1.2.1 - ((nt0, (sU4 lb).2) : NS × OU).2.1) / 2)) (0 + 0 + 0 + 0 + 0 + (2 * (lb.length - ((nt0, (sU4 lb).2) : NS × OU).2.1))) Q (F0 m 113 ls [.int (bZ ((sX5 lb).2))])
  refine z_if_ne (tgt := 118) hx hb dX7_readSeal_113 (by decide) (fun c113 => ?_) (fun c113 => ?_)
  · refine lv_aload_n hx hb dX7_readSeal_118 rfl (lv_at hl 2 rfl) ?_
    refine lv_aload_n hx hb dX7_readSeal_119 rfl (lv_at hl 2 rfl) ?_
    refine m_gi C h 54 (by decide) rfl rfl q1924 (v := nI ((sX5 lb).1.2.1)) rfl dX7_readSeal_120 ?_
    refine m_pi C h 58 (v := nI ((sX5 lb).1.2.1)) (by decide) rfl rfl rfl q1928 rfl rfl dX7_readSeal_123 (fun H locs h => ?_)
    rw [sM_58] at h
    have h : Wd D B s (mw dA h0 ad (sM M (nI ((sX5 lb).1.2.1)) (bZ ((sX5 lb).1.2.2)) (nI ((sU2 lb).1)) (nI ((sU4 lb).1)) (nI ((sX5 lb).1.2.1)) (mI M 59) (oI (sX5 lb).1.1.2.2.2.2.2.2.1) (oI (sX5 lb).1.1.2.2.2.2.2.2.2.1) (bZ ((sX5 lb).1.1.2.2.2.2.2.2.2.2.1)) (oL (sX5 lb).1.1.1) (lN ((sX5 lb).1.1.2.1)) (lN ((sX5 lb).1.1.2.2.1)) (some oa) (mR M 60) r5.1 r5.2.1 r5.2.2 (fun j => ((sX5 lb).1.1.2.2.2.2.2.2.2.2.2 j).toNat)) ++ (F ++ E5)) H locs := h
    refine lv_aload_n hx hb dX7_readSeal_126 rfl (lv_at hl 2 rfl) ?_
    refine lv_iconst (v := bZ false) hx hb dX7_readSeal_127 (by decide) ?_
    have h : Wd D B s (mw dA h0 ad (qWm (sM M (nI ((sX5 lb).1.2.1)) (bZ ((sX5 lb).1.2.2)) (nI ((sU2 lb).1)) (nI ((sU4 lb).1)) (nI ((sX5 lb).1.2.1)) (mI M 59) (oI (sX5 lb).1.1.2.2.2.2.2.2.1) (oI (sX5 lb).1.1.2.2.2.2.2.2.2.1) (bZ ((sX5 lb).1.1.2.2.2.2.2.2.2.2.1)) (oL (sX5 lb).1.1.1) (lN ((sX5 lb).1.1.2.1)) (lN ((sX5 lb).1.1.2.2.1)) (some oa) (mR M 60) r5.1 r5.2.1 r5.2.2 (fun j => ((sX5 lb).1.1.2.2.2.2.2.2.2.2.2 j).toNat)) (sX5 lb).1.1 r5 (sX5 lb).1.2) ++ (F ++ E5)) H locs := by unfold qWm; rw [qM_sM]; exact h
    refine call_V (As := [.int (bZ false)]) (rest := []) (n := 1) C h (c7_readNotes l D dA B Z hZ h0 ad (sM M (nI ((sX5 lb).1.2.1)) (bZ ((sX5 lb).1.2.2)) (nI ((sU2 lb).1)) (nI ((sU4 lb).1)) (nI ((sX5 lb).1.2.1)) (mI M 59) (oI (sX5 lb).1.1.2.2.2.2.2.2.1) (oI (sX5 lb).1.1.2.2.2.2.2.2.2.1) (bZ ((sX5 lb).1.1.2.2.2.2.2.2.2.2.1)) (oL (sX5 lb).1.1.1) (lN ((sX5 lb).1.1.2.1)) (lN ((sX5 lb).1.1.2.2.1)) (some oa) (mR M 60) r5.1 r5.2.1 r5.2.2 (fun j => ((sX5 lb).1.1.2.2.2.2.2.2.2.2.2 j).toNat)) (F ++ E5) oa lb (sX5 lb).1 r5 false rfl (List.mem_append_left _ hoF) hob hol hRE5 hl_x5) (lw_V q2349 q2351 qs84 q138 q2352) (by decide +kernel) (ci := 5) rfl rfl mw_mem0 (by decide) (by decide) rfl hl rfl (Nat.le_of_ble_eq_true rfl) dX7_readSeal_128 (by
      have z5 : (sX5 lb).1.2.1 ≤ lb.length := hl_x5
      have z6 : (sX6 lb).1.2.1 ≤ lb.length := notesR_le hob false _ hl_x5
      have z4 : (sU4 lb).2.1 ≤ lb.length := hl_sU4
      have z3 : ((nt0, (sU4 lb).2) : NS × OU).2.1 = (sU4 lb).2.1 := rfl
      have z7 : (sX5 lb).1.2.1 = (notesR lb true (nt0, (sU4 lb).2)).1.2.1 := rfl
      have z8 : (sX6 lb).1.2.1 = (notesR lb false (sX5 lb).1).1.2.1 := rfl
      omega) (fun u9 H locs hu h => ?_)
    obtain ⟨r6, E6⟩ := u9
    unfold qWm at h
    rw [qM_sM, List.append_assoc] at h
    have hRE6 : RN dA (F ++ (E5 ++ E6)) (sX6 lb).1.1 r6 := by
      have q : RN dA (F ++ E5 ++ E6) (sX6 lb).1.1 r6 := hu
      rw [List.append_assoc] at q; exact q
    have h : Wd D B s (mw dA h0 ad (sM M (nI ((sX6 lb).1.2.1)) (bZ ((sX6 lb).1.2.2)) (nI ((sU2 lb).1)) (nI ((sU4 lb).1)) (nI ((sX5 lb).1.2.1)) (mI M 59) (oI (sX6 lb).1.1.2.2.2.2.2.2.1) (oI (sX6 lb).1.1.2.2.2.2.2.2.2.1) (bZ ((sX6 lb).1.1.2.2.2.2.2.2.2.2.1)) (oL (sX6 lb).1.1.1) (lN ((sX6 lb).1.1.2.1)) (lN ((sX6 lb).1.1.2.2.1)) (some oa) (mR M 60) r6.1 r6.2.1 r6.2.2 (fun j => ((sX6 lb).1.1.2.2.2.2.2.2.2.2.2 j).toNat)) ++ (F ++ (E5 ++ E6))) H locs := h
    show W p l e R s m args below meth c H locs (0 + 0 + 0 + 0 + 0 + (((sX5 lb).1.2.1 - ((nt0, (sU4 lb).2) : NS × OU).2.1) / 2) + (((sX6 lb).1.2.1 - (sX5 lb).1.2.1) / 2)) (0 + 0 + 0 + 0 + 0 + (2 * (lb.length - ((nt0, (sU4 lb).2) : NS × OU).2.1)) + (2 * (lb.length - (sX5 lb).1.2.1))) Q (F0 m 131 ls [.int (bZ ((sX6 lb).2))])
    refine z_if_ne (tgt := 136) hx hb dX7_readSeal_131 (by decide) (fun c131 => ?_) (fun c131 => ?_)
    · refine lv_aload_n hx hb dX7_readSeal_136 rfl (lv_at hl 2 rfl) ?_
      have jv : ∀ (H : Heap) (locs : List Loc), Wd D B s (mw dA h0 ad (sM M (nI ((sX6 lb).1.2.1)) (bZ ((sX6 lb).1.2.2)) (nI ((sU2 lb).1)) (nI ((sU4 lb).1)) (nI ((sX5 lb).1.2.1)) (mI M 59) (oI (sX6 lb).1.1.2.2.2.2.2.2.1) (oI (sX6 lb).1.1.2.2.2.2.2.2.2.1) (bZ ((sX6 lb).1.1.2.2.2.2.2.2.2.2.1)) (oL (sX6 lb).1.1.1) (lN ((sX6 lb).1.1.2.1)) (lN ((sX6 lb).1.1.2.2.1)) (some oa) (mR M 60) r6.1 r6.2.1 r6.2.2 (fun j => ((sX6 lb).1.1.2.2.2.2.2.2.2.2.2 j).toNat)) ++ (F ++ (E5 ++ E6))) H locs → ∀ (ls : Array Slot), lv_has ls 4 [(3, .int (nI ((sU3 lb).1))), (2, .int (nI ((sU1 lb).1))), (0, .ref h0), (1, .ref oa)] → W p l e R s m args below meth c H locs (0 + 0 + 0 + 0 + 0 + (((sX5 lb).1.2.1 - ((nt0, (sU4 lb).2) : NS × OU).2.1) / 2) + (((sX6 lb).1.2.1 - (sX5 lb).1.2.1) / 2)) (0 + 0 + 0 + 0 + 0 + (2 * (lb.length - ((nt0, (sU4 lb).2) : NS × OU).2.1)) + (2 * (lb.length - (sX5 lb).1.2.1))) Q (F0 m 158 ls [.int (bZ (sVain lb)), .ref h0]) := by
        intro   H locs h ls hl
        refine m_pi C h 69 (v := bZ (sVain lb)) (by decide) rfl rfl rfl q1939 (bZ_nar _) (bZ_fit _) dX7_readSeal_158 (fun H locs h => ?_)
        rw [sM_69] at h
        have h : Wd D B s (mw dA h0 ad (sM M (nI ((sX6 lb).1.2.1)) (bZ ((sX6 lb).1.2.2)) (nI ((sU2 lb).1)) (nI ((sU4 lb).1)) (nI ((sX5 lb).1.2.1)) (mI M 59) (oI (sX6 lb).1.1.2.2.2.2.2.2.1) (oI (sX6 lb).1.1.2.2.2.2.2.2.2.1) (bZ (sVain lb)) (oL (sX6 lb).1.1.1) (lN ((sX6 lb).1.1.2.1)) (lN ((sX6 lb).1.1.2.2.1)) (some oa) (mR M 60) r6.1 r6.2.1 r6.2.2 (fun j => ((sX6 lb).1.1.2.2.2.2.2.2.2.2.2 j).toNat)) ++ (F ++ (E5 ++ E6))) H locs := h
        refine lv_aload_n hx hb dX7_readSeal_161 rfl (lv_at hl 2 rfl) ?_
        refine lv_aload_n hx hb dX7_readSeal_162 rfl (lv_at hl 2 rfl) ?_
        refine lv_iconst (v := nI 2) hx hb dX7_readSeal_163 (by decide) ?_
        have h : Wd D B s (mw dA h0 ad (oM (sM M (nI ((sX6 lb).1.2.1)) (bZ ((sX6 lb).1.2.2)) (nI ((sU2 lb).1)) (nI ((sU4 lb).1)) (nI ((sX5 lb).1.2.1)) (mI M 59) (oI (sX6 lb).1.1.2.2.2.2.2.2.1) (oI (sX6 lb).1.1.2.2.2.2.2.2.2.1) (bZ (sVain lb)) (oL (sX6 lb).1.1.1) (lN ((sX6 lb).1.1.2.1)) (lN ((sX6 lb).1.1.2.2.1)) (some oa) (mR M 60) r6.1 r6.2.1 r6.2.2 (fun j => ((sX6 lb).1.1.2.2.2.2.2.2.2.2.2 j).toNat)) (nI (sX6 lb).1.2.1) (bZ (sX6 lb).1.2.2)) ++ (F ++ (E5 ++ E6))) H locs := by rw [oM_sM]; exact h
        refine call_V (As := [.int (nI 2)]) (rest := [.ref h0]) (n := 1) C h (c7_some l D dA B Z hZ h0 ad (sM M (nI ((sX6 lb).1.2.1)) (bZ ((sX6 lb).1.2.2)) (nI ((sU2 lb).1)) (nI ((sU4 lb).1)) (nI ((sX5 lb).1.2.1)) (mI M 59) (oI (sX6 lb).1.1.2.2.2.2.2.2.1) (oI (sX6 lb).1.1.2.2.2.2.2.2.2.1) (bZ (sVain lb)) (oL (sX6 lb).1.1.1) (lN ((sX6 lb).1.1.2.1)) (lN ((sX6 lb).1.1.2.2.1)) (some oa) (mR M 60) r6.1 r6.2.1 r6.2.2 (fun j => ((sX6 lb).1.1.2.2.2.2.2.2.2.2.2 j).toNat)) (F ++ (E5 ++ E6)) oa lb (sX6 lb).1.2 2 rfl (List.mem_append_left _ hoF) hob hol hl_x6 (by decide)) (lw_V q2225 q2227 qs62 q138 q2228) (by decide +kernel) (ci := 5) rfl rfl mw_mem0 (by decide) (by decide) rfl hl rfl (Nat.le_of_ble_eq_true rfl) dX7_readSeal_164 (by omega) (fun _ H locs _ h => ?_)
        rw [oM_sM] at h
        have h : Wd D B s (mw dA h0 ad (sM M (nI ((sU7 lb).2.1)) (bZ ((sU7 lb).2.2)) (nI ((sU2 lb).1)) (nI ((sU4 lb).1)) (nI ((sX5 lb).1.2.1)) (mI M 59) (oI (sX6 lb).1.1.2.2.2.2.2.2.1) (oI (sX6 lb).1.1.2.2.2.2.2.2.2.1) (bZ (sVain lb)) (oL (sX6 lb).1.1.1) (lN ((sX6 lb).1.1.2.1)) (lN ((sX6 lb).1.1.2.2.1)) (some oa) (mR M 60) r6.1 r6.2.1 r6.2.2 (fun j => ((sX6 lb).1.1.2.2.2.2.2.2.2.2.2 j).toNat)) ++ (F ++ (E5 ++ E6))) H locs := h
        show W p l e R s m args below meth c H locs (0 + 0 + 0 + 0 + 0 + (((sX5 lb).1.2.1 - ((nt0, (sU4 lb).2) : NS × OU).2.1) / 2) + (((sX6 lb).1.2.1 - (sX5 lb).1.2.1) / 2) + 0) (0 + 0 + 0 + 0 + 0 + (2 * (lb.length - ((nt0, (sU4 lb).2) : NS × OU).2.1)) + (2 * (lb.length - (sX5 lb).1.2.1)) + 0) Q (F0 m 167 ls [.long (lN ((sU7 lb).1)), .ref h0])
        refine lv_l2i (v := nI ((sU7 lb).1)) hx hb dX7_readSeal_167 (lN_i _) ?_
        refine m_pi C h 59 (v := nI ((sU7 lb).1)) (by decide) rfl rfl rfl q1929 rfl rfl dX7_readSeal_168 (fun H locs h => ?_)
        rw [sM_59] at h
        have h : Wd D B s (mw dA h0 ad (sM M (nI ((sU7 lb).2.1)) (bZ ((sU7 lb).2.2)) (nI ((sU2 lb).1)) (nI ((sU4 lb).1)) (nI ((sX5 lb).1.2.1)) (nI ((sU7 lb).1)) (oI (sX6 lb).1.1.2.2.2.2.2.2.1) (oI (sX6 lb).1.1.2.2.2.2.2.2.2.1) (bZ (sVain lb)) (oL (sX6 lb).1.1.1) (lN ((sX6 lb).1.1.2.1)) (lN ((sX6 lb).1.1.2.2.1)) (some oa) (mR M 60) r6.1 r6.2.1 r6.2.2 (fun j => ((sX6 lb).1.1.2.2.2.2.2.2.2.2.2 j).toNat)) ++ (F ++ (E5 ++ E6))) H locs := h
        refine lv_aload_n hx hb dX7_readSeal_171 rfl (lv_at hl 2 rfl) ?_
        refine lv_aload_n hx hb dX7_readSeal_172 rfl (lv_at hl 2 rfl) ?_
        have h : Wd D B s (mw dA h0 ad (oM (sM M (nI ((sU7 lb).2.1)) (bZ ((sU7 lb).2.2)) (nI ((sU2 lb).1)) (nI ((sU4 lb).1)) (nI ((sX5 lb).1.2.1)) (nI ((sU7 lb).1)) (oI (sX6 lb).1.1.2.2.2.2.2.2.1) (oI (sX6 lb).1.1.2.2.2.2.2.2.2.1) (bZ (sVain lb)) (oL (sX6 lb).1.1.1) (lN ((sX6 lb).1.1.2.1)) (lN ((sX6 lb).1.1.2.2.1)) (some oa) (mR M 60) r6.1 r6.2.1 r6.2.2 (fun j => ((sX6 lb).1.1.2.2.2.2.2.2.2.2.2 j).toNat)) (nI (sU7 lb).2.1) (bZ (sU7 lb).2.2)) ++ (F ++ (E5 ++ E6))) H locs := by rw [oM_sM]; exact h
        refine call_V (As := []) (rest := [.ref h0]) (n := 0) C h (c7_numberOf l D dA B Z hZ h0 ad (sM M (nI ((sU7 lb).2.1)) (bZ ((sU7 lb).2.2)) (nI ((sU2 lb).1)) (nI ((sU4 lb).1)) (nI ((sX5 lb).1.2.1)) (nI ((sU7 lb).1)) (oI (sX6 lb).1.1.2.2.2.2.2.2.1) (oI (sX6 lb).1.1.2.2.2.2.2.2.2.1) (bZ (sVain lb)) (oL (sX6 lb).1.1.1) (lN ((sX6 lb).1.1.2.1)) (lN ((sX6 lb).1.1.2.2.1)) (some oa) (mR M 60) r6.1 r6.2.1 r6.2.2 (fun j => ((sX6 lb).1.1.2.2.2.2.2.2.2.2.2 j).toNat)) (F ++ (E5 ++ E6)) oa lb (sU7 lb).2 rfl (List.mem_append_left _ hoF) hob hol hl_sU7.2.1) (lw_V q2229 q2231 qs63 q138 q2232) (by decide +kernel) (ci := 5) rfl rfl mw_mem0 (by decide) (by decide) rfl hl rfl (Nat.le_of_ble_eq_true rfl) dX7_readSeal_173 (by omega) (fun q_n H locs _ h => ?_)
        rw [oM_sM] at h
        rw [List.append_assoc] at h
        have h : Wd D B s (mw dA h0 ad (sM M (nI ((sU8 lb).2.1)) (bZ ((sU8 lb).2.2)) (nI ((sU2 lb).1)) (nI ((sU4 lb).1)) (nI ((sX5 lb).1.2.1)) (nI ((sU7 lb).1)) (oI (sX6 lb).1.1.2.2.2.2.2.2.1) (oI (sX6 lb).1.1.2.2.2.2.2.2.2.1) (bZ (sVain lb)) (oL (sX6 lb).1.1.1) (lN ((sX6 lb).1.1.2.1)) (lN ((sX6 lb).1.1.2.2.1)) (some oa) (mR M 60) r6.1 r6.2.1 r6.2.2 (fun j => ((sX6 lb).1.1.2.2.2.2.2.2.2.2.2 j).toNat)) ++ (F ++ ((E5 ++ E6) ++ [(q_n, ial dA (sNum lb))]))) H locs := h
        show W p l e R s m args below meth c H locs (0 + 0 + 0 + 0 + 0 + (((sX5 lb).1.2.1 - ((nt0, (sU4 lb).2) : NS × OU).2.1) / 2) + (((sX6 lb).1.2.1 - (sX5 lb).1.2.1) / 2) + 0 + 1) (0 + 0 + 0 + 0 + 0 + (2 * (lb.length - ((nt0, (sU4 lb).2) : NS × OU).2.1)) + (2 * (lb.length - (sX5 lb).1.2.1)) + 0 + lb.length) Q (F0 m 176 ls [.ref q_n, .ref h0])
        refine m_pr C h 60 (v := some q_n) (by decide) rfl rfl rfl q1930 rfl rfl dX7_readSeal_176 (fun H locs h => ?_)
        rw [sM_60] at h
        have h : Wd D B s (mw dA h0 ad (sM M (nI ((sU8 lb).2.1)) (bZ ((sU8 lb).2.2)) (nI ((sU2 lb).1)) (nI ((sU4 lb).1)) (nI ((sX5 lb).1.2.1)) (nI ((sU7 lb).1)) (oI (sX6 lb).1.1.2.2.2.2.2.2.1) (oI (sX6 lb).1.1.2.2.2.2.2.2.2.1) (bZ (sVain lb)) (oL (sX6 lb).1.1.1) (lN ((sX6 lb).1.1.2.1)) (lN ((sX6 lb).1.1.2.2.1)) (some oa) (some q_n) r6.1 r6.2.1 r6.2.2 (fun j => ((sX6 lb).1.1.2.2.2.2.2.2.2.2.2 j).toNat)) ++ (F ++ ((E5 ++ E6) ++ [(q_n, ial dA (sNum lb))]))) H locs := h
        have jz : ∀ (tjz : Bool), (tjz = decide ((sU8 lb).2.2 = true ∧ (sU8 lb).2.1 = lb.length)) → ∀ (H : Heap) (locs : List Loc), Wd D B s (mw dA h0 ad (sM M (nI ((sU8 lb).2.1)) (bZ ((sU8 lb).2.2)) (nI ((sU2 lb).1)) (nI ((sU4 lb).1)) (nI ((sX5 lb).1.2.1)) (nI ((sU7 lb).1)) (oI (sX6 lb).1.1.2.2.2.2.2.2.1) (oI (sX6 lb).1.1.2.2.2.2.2.2.2.1) (bZ (sVain lb)) (oL (sX6 lb).1.1.1) (lN ((sX6 lb).1.1.2.1)) (lN ((sX6 lb).1.1.2.2.1)) (some oa) (some q_n) r6.1 r6.2.1 r6.2.2 (fun j => ((sX6 lb).1.1.2.2.2.2.2.2.2.2.2 j).toNat)) ++ (F ++ ((E5 ++ E6) ++ [(q_n, ial dA (sNum lb))]))) H locs → ∀ (ls : Array Slot), lv_has ls 4 [(3, .int (nI ((sU3 lb).1))), (2, .int (nI ((sU1 lb).1))), (0, .ref h0), (1, .ref oa)] → W p l e R s m args below meth c H locs (0 + 0 + 0 + 0 + 0 + (((sX5 lb).1.2.1 - ((nt0, (sU4 lb).2) : NS × OU).2.1) / 2) + (((sX6 lb).1.2.1 - (sX5 lb).1.2.1) / 2) + 0 + 1) (0 + 0 + 0 + 0 + 0 + (2 * (lb.length - ((nt0, (sU4 lb).2) : NS × OU).2.1)) + (2 * (lb.length - (sX5 lb).1.2.1)) + 0 + lb.length) Q (F0 m 200 ls [.int (bZ tjz)]) := by
          intro tjz  hjz H locs h ls hl
          subst hQ
          have hko : sealOk lb = tjz := by unfold sealOk; rw [c113, c131, hjz, Bool.decide_and, Bool.decide_eq_true]; rfl
          have hRN : RN dA (F ++ ((E5 ++ E6) ++ [(q_n, ial dA (sNum lb))])) (sNote lb) r6 := by
            have q := hRE6.up (E := [(q_n, ial dA (sNum lb))])
            rw [List.append_assoc] at q; exact q
          exact ret_z C hr hlocks h ((sM M (nI ((sU8 lb).2.1)) (bZ ((sU8 lb).2.2)) (nI ((sU2 lb).1)) (nI ((sU4 lb).1)) (nI ((sX5 lb).1.2.1)) (nI ((sU7 lb).1)) (oI (sX6 lb).1.1.2.2.2.2.2.2.1) (oI (sX6 lb).1.1.2.2.2.2.2.2.2.1) (bZ (sVain lb)) (oL (sX6 lb).1.1.1) (lN ((sX6 lb).1.1.2.1)) (lN ((sX6 lb).1.1.2.2.1)) (some oa) (some q_n) r6.1 r6.2.1 r6.2.2 (fun j => ((sX6 lb).1.1.2.2.2.2.2.2.2.2.2 j).toNat)), ((E5 ++ E6) ++ [(q_n, ial dA (sNum lb))])) (⟨⟨hI1, (sX6 lb).1.1.2.2.2.2.2.2.2.2.2, fun j hj => (notesR_w hj).trans ((notesR_w hj).trans rfl), rfl⟩, sM_kp _ _ _ _ _ _ _ _ _ _ _ _ _ _ _ _ _ _ _, fun _ => ⟨rfl, rfl, rfl, rfl, ⟨q_n, rfl, List.mem_append_right _ (List.mem_append_right _ List.mem_cons_self)⟩, rfl, rfl, rfl, hRN, rfl, rfl, rfl⟩⟩) (by rw [hko]) rfl (by omega) (by omega) dX7_readSeal_200
        refine lv_aload_n hx hb dX7_readSeal_179 rfl (lv_at hl 2 rfl) ?_
        refine m_gi C h 55 (by decide) rfl rfl q1925 (v := bZ ((sU8 lb).2.2)) rfl dX7_readSeal_180 ?_
        refine z_if_eq (tgt := 199) hx hb dX7_readSeal_183 (by decide) (fun c183 => ?_) (fun c183 => ?_)
        · refine lv_iconst (v := nI 0) hx hb dX7_readSeal_199 (by decide) ?_
          refine n_top (y := bZ false) rfl ?_
          exact jz false (by first | (rw [decide_eq_false (fun q => absurd (q.1.symm.trans c183) (by decide))]) | (rw [decide_eq_false (fun q => c192 q.2)])) _ _ h _ (lv_sub hl [0, 1, 2, 3] rfl)
        · refine lv_aload_n hx hb dX7_readSeal_186 rfl (lv_at hl 2 rfl) ?_
          refine m_gi C h 54 (by decide) rfl rfl q1924 (v := nI ((sU8 lb).2.1)) rfl dX7_readSeal_187 ?_
          refine lv_aload_n hx hb dX7_readSeal_190 rfl (lv_at hl 3 rfl) ?_
          refine n_alen C h (List.mem_append_right _ (List.mem_append_left _ hoF)) dX7_readSeal_191 ?_
          refine n_icmp_ne (tgt := 199) hx hb (by omega) (by omega) dX7_readSeal_192 (by decide) (fun c192 => ?_) (fun c192 => ?_)
          · refine lv_iconst (v := nI 0) hx hb dX7_readSeal_199 (by decide) ?_
            refine n_top (y := bZ false) rfl ?_
            exact jz false (by first | (rw [decide_eq_false (fun q => absurd (q.1.symm.trans c183) (by decide))]) | (rw [decide_eq_false (fun q => c192 q.2)])) _ _ h _ (lv_sub hl [0, 1, 2, 3] rfl)
          · refine lv_iconst (v := nI 1) hx hb dX7_readSeal_195 (by decide) ?_
            refine lv_goto (tgt := 200) hx hb dX7_readSeal_196 (by decide) ?_
            refine n_top (y := bZ true) rfl ?_
            exact jz true (by rw [decide_eq_true ⟨c183, c192⟩]) _ _ h _ (lv_sub hl [0, 1, 2, 3] rfl)
      refine lv_aload_n hx hb dX7_readSeal_137 rfl (lv_at hl 2 rfl) ?_
      refine m_gi C h 69 (by decide) rfl rfl q1939 (v := bZ ((sX6 lb).1.1.2.2.2.2.2.2.2.2.1)) rfl dX7_readSeal_138 ?_
      refine z_if_ne (tgt := 153) hx hb dX7_readSeal_141 (by decide) (fun c141 => ?_) (fun c141 => ?_)
      · refine lv_iconst (v := nI 1) hx hb dX7_readSeal_153 (by decide) ?_
        refine lv_goto (tgt := 158) hx hb dX7_readSeal_154 (by decide) ?_
        refine n_top (y := bZ (sVain lb)) (by first | (rw [show sVain lb = true from by unfold sVain sNote; rw [c141]; rfl]; rfl) | (rw [show sVain lb = true from by unfold sVain; rw [decide_eq_true (oL_neg (sNote_nb hob).1 c149), Bool.or_true]]; rfl) | (rw [show sVain lb = false from by unfold sVain sNote; rw [c141, decide_eq_false (oL_pos c149)]; rfl]; rfl)) ?_
        exact jv   _ _ h _ (lv_sub hl [0, 1, 2, 3] rfl)
      · refine lv_aload_n hx hb dX7_readSeal_144 rfl (lv_at hl 2 rfl) ?_
        refine m_gl C h 61 (by decide) rfl rfl q1931 (v := oL (sX6 lb).1.1.1) rfl dX7_readSeal_145 ?_
        refine lv_lconst (v := lN 0) hx hb dX7_readSeal_148 (by decide) ?_
        refine k_lcmp_ge (tgt := 157) hx hb dX7_readSeal_149 dX7_readSeal_150 (by decide) (fun c149 => ?_) (fun c149 => ?_)
        · refine lv_iconst (v := nI 0) hx hb dX7_readSeal_157 (by decide) ?_
          refine n_top (y := bZ (sVain lb)) (by first | (rw [show sVain lb = true from by unfold sVain sNote; rw [c141]; rfl]; rfl) | (rw [show sVain lb = true from by unfold sVain; rw [decide_eq_true (oL_neg (sNote_nb hob).1 c149), Bool.or_true]]; rfl) | (rw [show sVain lb = false from by unfold sVain sNote; rw [c141, decide_eq_false (oL_pos c149)]; rfl]; rfl)) ?_
          exact jv   _ _ h _ (lv_sub hl [0, 1, 2, 3] rfl)
        · refine lv_iconst (v := nI 1) hx hb dX7_readSeal_153 (by decide) ?_
          refine lv_goto (tgt := 158) hx hb dX7_readSeal_154 (by decide) ?_
          refine n_top (y := bZ (sVain lb)) (by first | (rw [show sVain lb = true from by unfold sVain sNote; rw [c141]; rfl]; rfl) | (rw [show sVain lb = true from by unfold sVain; rw [decide_eq_true (oL_neg (sNote_nb hob).1 c149), Bool.or_true]]; rfl) | (rw [show sVain lb = false from by unfold sVain sNote; rw [c141, decide_eq_false (oL_pos c149)]; rfl]; rfl)) ?_
          exact jv   _ _ h _ (lv_sub hl [0, 1, 2, 3] rfl)
    · refine lv_iconst (v := nI 0) hx hb dX7_readSeal_134 (by decide) ?_
      subst hQ
      have hko : sealOk lb = false := by unfold sealOk; rw [c131, Bool.and_false]; rfl
      refine n_top (y := bZ false) rfl ?_
      exact ret_z C hr hlocks h ((sM M (nI ((sX6 lb).1.2.1)) (bZ ((sX6 lb).1.2.2)) (nI ((sU2 lb).1)) (nI ((sU4 lb).1)) (nI ((sX5 lb).1.2.1)) (mI M 59) (oI (sX6 lb).1.1.2.2.2.2.2.2.1) (oI (sX6 lb).1.1.2.2.2.2.2.2.2.1) (bZ ((sX6 lb).1.1.2.2.2.2.2.2.2.2.1)) (oL (sX6 lb).1.1.1) (lN ((sX6 lb).1.1.2.1)) (lN ((sX6 lb).1.1.2.2.1)) (some oa) (mR M 60) r6.1 r6.2.1 r6.2.2 (fun j => ((sX6 lb).1.1.2.2.2.2.2.2.2.2.2 j).toNat)), (E5 ++ E6)) (⟨⟨hI1, (sX6 lb).1.1.2.2.2.2.2.2.2.2.2, fun j hj => (notesR_w hj).trans ((notesR_w hj).trans rfl), rfl⟩, sM_kp _ _ _ _ _ _ _ _ _ _ _ _ _ _ _ _ _ _ _, fun q => absurd (q.symm.trans hko) (by decide)⟩) (by rw [hko]) rfl (by omega) (by omega) dX7_readSeal_135
  · refine lv_iconst (v := nI 0) hx hb dX7_readSeal_116 (by decide) ?_
    subst hQ
    have hko : sealOk lb = false := by unfold sealOk; rw [c113]; rfl
    refine n_top (y := bZ false) rfl ?_
    exact ret_z C hr hlocks h ((sM M (nI ((sX5 lb).1.2.1)) (bZ ((sX5 lb).1.2.2)) (nI ((sU2 lb).1)) (nI ((sU4 lb).1)) (mI M 58) (mI M 59) (oI (sX5 lb).1.1.2.2.2.2.2.2.1) (oI (sX5 lb).1.1.2.2.2.2.2.2.2.1) (bZ ((sX5 lb).1.1.2.2.2.2.2.2.2.2.1)) (oL (sX5 lb).1.1.1) (lN ((sX5 lb).1.1.2.1)) (lN ((sX5 lb).1.1.2.2.1)) (some oa) (mR M 60) r5.1 r5.2.1 r5.2.2 (fun j => ((sX5 lb).1.1.2.2.2.2.2.2.2.2.2 j).toNat)), E5) (⟨⟨hI1, (sX5 lb).1.1.2.2.2.2.2.2.2.2.2, fun j hj => (notesR_w hj).trans rfl, rfl⟩, sM_kp _ _ _ _ _ _ _ _ _ _ _ _ _ _ _ _ _ _ _, fun q => absurd (q.symm.trans hko) (by decide)⟩) (by rw [hko]) rfl (by omega) (by omega) dX7_readSeal_117

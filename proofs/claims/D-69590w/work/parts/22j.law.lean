/-! the law's own code -/
def zex1 (i : Ins) : Bool := match i with
  | (.invokestatic 66, [1, 5, 6]) => true
  | _ => false
theorem zblk411 : zblk zex1 znoth 411 := zblk_of (by decide +kernel)

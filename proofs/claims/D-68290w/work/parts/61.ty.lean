/-! ranges of fields and elements that hold at every point, printed by gen/tytab.py -/
set_option maxRecDepth 100000
def lkI (i : Nat) : Option (Int × Int) := (if i < 5802 then (if i < 2500 then (if i < 1605 then (if i < 1011 then (if i < 408 then (if i < 403 then (if i < 301 then (if i < 205 then if i = 121 then some (0, 1) else none else if i = 205 then some (0, 1) else none) else (if i < 402 then if i = 301 then some (0, 32768) else none else if i = 402 then some (0, 16) else none)) else (if i < 405 then (if i < 404 then if i = 403 then some (0, 255) else none else if i = 404 then some (0, 65535) else none) else (if i < 406 then if i = 405 then some (0, 32) else none else (if i < 407 then if i = 406 then some (0, 1) else none else if i = 407 then some (0, 1) else none)))) else (if i < 804 then (if i < 701 then (if i < 700 then if i = 408 then some (0, 1) else none else if i = 700 then some (0, 1) else none) else (if i < 702 then if i = 701 then some (0, 1) else none else if i = 702 then some (0, 1) else none)) else (if i < 1008 then (if i < 901 then if i = 804 then some (0, 1) else none else if i = 901 then some (0, 32768) else none) else (if i < 1009 then if i = 1008 then some (0, 1) else none else (if i < 1010 then if i = 1009 then some (0, 1) else none else if i = 1010 then some (0, 1) else none))))) else (if i < 1108 then (if i < 1103 then (if i < 1101 then (if i < 1100 then if i = 1011 then some (0, 1) else none else if i = 1100 then some (0, 2147483647) else none) else (if i < 1102 then if i = 1101 then some (0, 2147483647) else none else if i = 1102 then some (0, 16) else none)) else (if i < 1105 then (if i < 1104 then if i = 1103 then some (0, 18) else none else if i = 1104 then some (-1, 1024) else none) else (if i < 1106 then if i = 1105 then some (0, 16) else none else (if i < 1107 then if i = 1106 then some (0, 16) else none else if i = 1107 then some (0, 1) else none)))) else (if i < 1404 then (if i < 1201 then (if i < 1200 then if i = 1108 then some (0, 1) else none else if i = 1200 then some (0, 1024) else none) else (if i < 1403 then if i = 1201 then some (0, 8) else none else if i = 1403 then some (0, 4) else none)) else (if i < 1602 then (if i < 1405 then if i = 1404 then some (0, 16384) else none else if i = 1405 then some (0, 1) else none) else (if i < 1603 then if i = 1602 then some (0, 32767) else none else (if i < 1604 then if i = 1603 then some (0, 32767) else none else if i = 1604 then some (0, 32768) else none)))))) else (if i < 2005 then (if i < 1900 then (if i < 1700 then (if i < 1607 then (if i < 1606 then if i = 1605 then some (0, 32768) else none else if i = 1606 then some (0, 32767) else none) else (if i < 1609 then if i = 1607 then some (0, 32767) else none else if i = 1609 then some (0, 16) else none)) else (if i < 1702 then (if i < 1701 then if i = 1700 then some (0, 65536) else none else if i = 1701 then some (0, 65536) else none) else (if i < 1703 then if i = 1702 then some (0, 65536) else none else (if i < 1802 then if i = 1703 then some (0, 65536) else none else if i = 1802 then some (0, 32) else none)))) else (if i < 1906 then (if i < 1904 then (if i < 1903 then if i = 1900 then some (0, 32) else none else if i = 1903 then some (0, 15) else none) else (if i < 1905 then if i = 1904 then some (0, 15) else none else if i = 1905 then some (0, 65536) else none)) else (if i < 2002 then (if i < 2000 then if i = 1906 then some (0, 65536) else none else if i = 2000 then some (0, 3) else none) else (if i < 2003 then if i = 2002 then some (-1, 15) else none else (if i < 2004 then if i = 2003 then some (-1, 15) else none else if i = 2004 then some (-1, 15) else none))))) else (if i < 2202 then (if i < 2106 then (if i < 2102 then (if i < 2101 then if i = 2005 then some (-1, 15) else none else if i = 2101 then some (0, 16) else none) else (if i < 2103 then if i = 2102 then some (0, 255) else none else if i = 2103 then some (0, 4) else none)) else (if i < 2112 then (if i < 2111 then if i = 2106 then some (0, 32) else none else if i = 2111 then some (0, 1) else none) else (if i < 2200 then if i = 2112 then some (-1, 32) else none else (if i < 2201 then if i = 2200 then some (0, 32) else none else if i = 2201 then some (0, 33) else none)))) else (if i < 2303 then (if i < 2204 then (if i < 2203 then if i = 2202 then some (0, 15) else none else if i = 2203 then some (0, 16) else none) else (if i < 2205 then if i = 2204 then some (0, 255) else none else if i = 2205 then some (0, 4) else none)) else (if i < 2401 then (if i < 2400 then if i = 2303 then some (0, 16) else none else if i = 2400 then some (0, 65536) else none) else (if i < 2402 then if i = 2401 then some (0, 65536) else none else (if i < 2403 then if i = 2402 then some (0, 65536) else none else if i = 2403 then some (0, 65536) else none))))))) else (if i < 4305 then (if i < 3613 then (if i < 2910 then (if i < 2704 then (if i < 2502 then (if i < 2501 then if i = 2500 then some (0, 255) else none else if i = 2501 then some (0, 4096) else none) else (if i < 2603 then if i = 2502 then some (0, 32) else none else if i = 2603 then some (0, 255) else none)) else (if i < 2706 then (if i < 2705 then if i = 2704 then some (0, 33) else none else if i = 2705 then some (0, 16) else none) else (if i < 2805 then if i = 2706 then some (0, 4096) else none else (if i < 2806 then if i = 2805 then some (0, 33) else none else if i = 2806 then some (0, 33) else none)))) else (if i < 3608 then (if i < 2914 then (if i < 2913 then if i = 2910 then some (0, 1024) else none else if i = 2913 then some (0, 1024) else none) else (if i < 3205 then if i = 2914 then some (0, 3072) else none else if i = 3205 then some (0, 1) else none)) else (if i < 3610 then (if i < 3609 then if i = 3608 then some (0, 64) else none else if i = 3609 then some (0, 64) else none) else (if i < 3611 then if i = 3610 then some (0, 3) else none else (if i < 3612 then if i = 3611 then some (0, 63) else none else if i = 3612 then some (0, 1) else none))))) else (if i < 4002 then (if i < 3802 then (if i < 3615 then (if i < 3614 then if i = 3613 then some (0, 1) else none else if i = 3614 then some (0, 31) else none) else (if i < 3701 then if i = 3615 then some (0, 91) else none else if i = 3701 then some (0, 131072) else none)) else (if i < 3804 then (if i < 3803 then if i = 3802 then some (0, 1) else none else if i = 3803 then some (0, 131072) else none) else (if i < 3805 then if i = 3804 then some (0, 268435455) else none else (if i < 3806 then if i = 3805 then some (0, 65535) else none else if i = 3806 then some (0, 12) else none)))) else (if i < 4006 then (if i < 4004 then (if i < 4003 then if i = 4002 then some (0, 1) else none else if i = 4003 then some (0, 131072) else none) else (if i < 4005 then if i = 4004 then some (0, 131072) else none else if i = 4005 then some (-1, 131073) else none)) else (if i < 4008 then (if i < 4007 then if i = 4006 then some (-2147483648, 2147483647) else none else if i = 4007 then some (0, 65535) else none) else (if i < 4303 then if i = 4008 then some (0, 12) else none else (if i < 4304 then if i = 4303 then some (0, 64) else none else if i = 4304 then some (0, 64) else none)))))) else (if i < 5504 then (if i < 4406 then (if i < 4401 then (if i < 4309 then (if i < 4306 then if i = 4305 then some (0, 3) else none else if i = 4306 then some (0, 1) else none) else (if i < 4400 then if i = 4309 then some (-9223372036854775808, 9223372036854775807) else none else if i = 4400 then some (0, 2) else none)) else (if i < 4403 then (if i < 4402 then if i = 4401 then some (0, 31) else none else if i = 4402 then some (0, 1) else none) else (if i < 4404 then if i = 4403 then some (0, 1) else none else (if i < 4405 then if i = 4404 then some (0, 131072) else none else if i = 4405 then some (0, 131077) else none)))) else (if i < 4708 then (if i < 4705 then (if i < 4501 then if i = 4406 then some (-9223372036854775808, 9223372036854775807) else none else if i = 4501 then some (0, 131072) else none) else (if i < 4706 then if i = 4705 then some (0, 1024) else none else if i = 4706 then some (0, 64) else none)) else (if i < 4901 then (if i < 4805 then if i = 4708 then some (0, 1) else none else if i = 4805 then some (0, 16384) else none) else (if i < 5005 then if i = 4901 then some (0, 1024) else none else (if i < 5302 then if i = 5005 then some (0, 1) else none else if i = 5302 then some (0, 8) else none))))) else (if i < 5711 then (if i < 5702 then (if i < 5670 then (if i < 5619 then if i = 5504 then some (0, 8) else none else if i = 5619 then some (0, 1) else none) else (if i < 5684 then if i = 5670 then some (0, 1) else none else if i = 5684 then some (0, 1) else none)) else (if i < 5708 then (if i < 5703 then if i = 5702 then some (0, 1) else none else if i = 5703 then some (0, 16) else none) else (if i < 5709 then if i = 5708 then some (0, 255) else none else (if i < 5710 then if i = 5709 then some (0, 65535) else none else if i = 5710 then some (0, 255) else none)))) else (if i < 5721 then (if i < 5717 then (if i < 5712 then if i = 5711 then some (0, 1) else none else if i = 5712 then some (0, 1) else none) else (if i < 5720 then if i = 5717 then some (0, 32) else none else if i = 5720 then some (0, 32768) else none)) else (if i < 5728 then (if i < 5723 then if i = 5721 then some (0, 1) else none else if i = 5723 then some (0, 16500) else none) else (if i < 5735 then if i = 5728 then some (0, 256) else none else (if i < 5801 then if i = 5735 then some (0, 65535) else none else if i = 5801 then some (0, 2147483647) else none)))))))) else (if i < 6301 then (if i < 5920 then (if i < 5835 then (if i < 5816 then (if i < 5807 then (if i < 5805 then (if i < 5803 then if i = 5802 then some (0, 2147483647) else none else if i = 5803 then some (0, 16) else none) else (if i < 5806 then if i = 5805 then some (0, 1) else none else if i = 5806 then some (0, 1) else none)) else (if i < 5810 then (if i < 5808 then if i = 5807 then some (0, 18) else none else if i = 5808 then some (-1, 1024) else none) else (if i < 5811 then if i = 5810 then some (0, 1024) else none else (if i < 5814 then if i = 5811 then some (0, 8) else none else if i = 5814 then some (0, 16) else none)))) else (if i < 5830 then (if i < 5821 then (if i < 5820 then if i = 5816 then some (0, 16) else none else if i = 5820 then some (0, 32768) else none) else (if i < 5829 then if i = 5821 then some (0, 1) else none else if i = 5829 then some (0, 32768) else none)) else (if i < 5832 then (if i < 5831 then if i = 5830 then some (0, 32768) else none else if i = 5831 then some (0, 32768) else none) else (if i < 5833 then if i = 5832 then some (0, 32768) else none else (if i < 5834 then if i = 5833 then some (0, 32768) else none else if i = 5834 then some (0, 32768) else none))))) else (if i < 5904 then (if i < 5839 then (if i < 5837 then (if i < 5836 then if i = 5835 then some (0, 32768) else none else if i = 5836 then some (0, 32768) else none) else (if i < 5838 then if i = 5837 then some (0, 32768) else none else if i = 5838 then some (0, 32768) else none)) else (if i < 5901 then (if i < 5900 then if i = 5839 then some (0, 1) else none else if i = 5900 then some (0, 2) else none) else (if i < 5902 then if i = 5901 then some (0, 1) else none else (if i < 5903 then if i = 5902 then some (0, 32767) else none else if i = 5903 then some (0, 32767) else none)))) else (if i < 5908 then (if i < 5906 then (if i < 5905 then if i = 5904 then some (0, 32767) else none else if i = 5905 then some (0, 32767) else none) else (if i < 5907 then if i = 5906 then some (0, 32767) else none else if i = 5907 then some (0, 32767) else none)) else (if i < 5910 then (if i < 5909 then if i = 5908 then some (0, 32767) else none else if i = 5909 then some (0, 32767) else none) else (if i < 5911 then if i = 5910 then some (0, 32767) else none else (if i < 5912 then if i = 5911 then some (0, 32767) else none else if i = 5912 then some (0, 16) else none)))))) else (if i < 6127 then (if i < 6106 then (if i < 6006 then (if i < 5922 then (if i < 5921 then if i = 5920 then some (0, 65536) else none else if i = 5921 then some (0, 65536) else none) else (if i < 5923 then if i = 5922 then some (0, 65536) else none else if i = 5923 then some (0, 65536) else none)) else (if i < 6103 then (if i < 6007 then if i = 6006 then some (0, 1) else none else if i = 6007 then some (0, 1) else none) else (if i < 6104 then if i = 6103 then some (0, 64) else none else (if i < 6105 then if i = 6104 then some (0, 64) else none else if i = 6105 then some (0, 3) else none)))) else (if i < 6112 then (if i < 6110 then (if i < 6109 then if i = 6106 then some (0, 63) else none else if i = 6109 then some (0, 1) else none) else (if i < 6111 then if i = 6110 then some (0, 1) else none else if i = 6111 then some (0, 31) else none)) else (if i < 6119 then (if i < 6116 then if i = 6112 then some (0, 91) else none else if i = 6116 then some (0, 91) else none) else (if i < 6125 then if i = 6119 then some (0, 1) else none else (if i < 6126 then if i = 6125 then some (0, 30) else none else if i = 6126 then some (0, 1) else none))))) else (if i < 6139 then (if i < 6134 then (if i < 6132 then (if i < 6130 then if i = 6127 then some (0, 91) else none else if i = 6130 then some (0, 65536) else none) else (if i < 6133 then if i = 6132 then some (0, 65536) else none else if i = 6133 then some (0, 268435455) else none)) else (if i < 6136 then (if i < 6135 then if i = 6134 then some (0, 1) else none else if i = 6135 then some (0, 65535) else none) else (if i < 6137 then if i = 6136 then some (0, 12) else none else (if i < 6138 then if i = 6137 then some (0, 65536) else none else if i = 6138 then some (0, 65536) else none)))) else (if i < 6221 then (if i < 6206 then (if i < 6140 then if i = 6139 then some (0, 65537) else none else if i = 6140 then some (0, 255) else none) else (if i < 6218 then if i = 6206 then some (0, 65536) else none else if i = 6218 then some (0, 1) else none)) else (if i < 6223 then (if i < 6222 then if i = 6221 then some (0, 1) else none else if i = 6222 then some (0, 65536) else none) else (if i < 6224 then if i = 6223 then some (0, 65536) else none else (if i < 6225 then if i = 6224 then some (0, 8) else none else if i = 6225 then some (0, 1) else none))))))) else (if i < 6508 then (if i < 6332 then (if i < 6316 then (if i < 6305 then (if i < 6303 then (if i < 6302 then if i = 6301 then some (0, 1) else none else if i = 6302 then some (0, 32767) else none) else (if i < 6304 then if i = 6303 then some (0, 32767) else none else if i = 6304 then some (0, 32767) else none)) else (if i < 6312 then (if i < 6306 then if i = 6305 then some (0, 32767) else none else if i = 6306 then some (0, 16) else none) else (if i < 6313 then if i = 6312 then some (0, 255) else none else (if i < 6314 then if i = 6313 then some (0, 4) else none else if i = 6314 then some (0, 32) else none)))) else (if i < 6327 then (if i < 6325 then (if i < 6317 then if i = 6316 then some (0, 1) else none else if i = 6317 then some (0, 4096) else none) else (if i < 6326 then if i = 6325 then some (0, 33) else none else if i = 6326 then some (0, 255) else none)) else (if i < 6329 then (if i < 6328 then if i = 6327 then some (0, 4096) else none else if i = 6328 then some (0, 4096) else none) else (if i < 6330 then if i = 6329 then some (0, 4096) else none else (if i < 6331 then if i = 6330 then some (0, 1) else none else if i = 6331 then some (0, 4095) else none))))) else (if i < 6408 then (if i < 6336 then (if i < 6334 then (if i < 6333 then if i = 6332 then some (0, 254) else none else if i = 6333 then some (0, 32) else none) else (if i < 6335 then if i = 6334 then some (0, 65536) else none else if i = 6335 then some (0, 65536) else none)) else (if i < 6401 then (if i < 6337 then if i = 6336 then some (0, 65536) else none else if i = 6337 then some (0, 65536) else none) else (if i < 6402 then if i = 6401 then some (0, 1024) else none else (if i < 6405 then if i = 6402 then some (0, 16384) else none else if i = 6405 then some (0, 17408) else none)))) else (if i < 6503 then (if i < 6501 then (if i < 6500 then if i = 6408 then some (0, 64) else none else if i = 6500 then some (0, 128) else none) else (if i < 6502 then if i = 6501 then some (0, 255) else none else if i = 6502 then some (0, 255) else none)) else (if i < 6505 then (if i < 6504 then if i = 6503 then some (0, 255) else none else if i = 6504 then some (0, 257) else none) else (if i < 6506 then if i = 6505 then some (0, 257) else none else (if i < 6507 then if i = 6506 then some (0, 255) else none else if i = 6507 then some (0, 31) else none)))))) else (if i < 7201 then (if i < 6802 then (if i < 6700 then (if i < 6510 then (if i < 6509 then if i = 6508 then some (0, 7) else none else if i = 6509 then some (0, 255) else none) else (if i < 6511 then if i = 6510 then some (0, 1) else none else if i = 6511 then some (0, 1) else none)) else (if i < 6702 then (if i < 6701 then if i = 6700 then some (0, 255) else none else if i = 6701 then some (0, 255) else none) else (if i < 6703 then if i = 6702 then some (0, 32) else none else (if i < 6704 then if i = 6703 then some (0, 10) else none else if i = 6704 then some (0, 10) else none)))) else (if i < 7004 then (if i < 7002 then (if i < 7000 then if i = 6802 then some (0, 1) else none else if i = 7000 then some (0, 1023) else none) else (if i < 7003 then if i = 7002 then some (-1, 16383) else none else if i = 7003 then some (-1, 16383) else none)) else (if i < 7006 then (if i < 7005 then if i = 7004 then some (-1, 16383) else none else if i = 7005 then some (0, 120) else none) else (if i < 7007 then if i = 7006 then some (-1, 16383) else none else (if i < 7200 then if i = 7007 then some (-1, 16383) else none else if i = 7200 then some (0, 255) else none))))) else (if i < 7406 then (if i < 7302 then (if i < 7203 then (if i < 7202 then if i = 7201 then some (0, 255) else none else if i = 7202 then some (0, 32) else none) else (if i < 7204 then if i = 7203 then some (0, 10) else none else if i = 7204 then some (0, 10) else none)) else (if i < 7403 then (if i < 7400 then if i = 7302 then some (0, 32) else none else if i = 7400 then some (0, 32) else none) else (if i < 7404 then if i = 7403 then some (0, 15) else none else (if i < 7405 then if i = 7404 then some (0, 15) else none else if i = 7405 then some (0, 65536) else none)))) else (if i < 7504 then (if i < 7502 then (if i < 7500 then if i = 7406 then some (0, 65536) else none else if i = 7500 then some (0, 3) else none) else (if i < 7503 then if i = 7502 then some (-1, 15) else none else if i = 7503 then some (-1, 15) else none)) else (if i < 7600 then (if i < 7505 then if i = 7504 then some (-1, 15) else none else if i = 7505 then some (-1, 15) else none) else (if i < 7603 then if i = 7600 then some (0, 15) else none else (if i < 7604 then if i = 7603 then some (0, 4096) else none else if i = 7604 then some (0, 4096) else none)))))))))
def lkA (i : Nat) : Option (Int × Int) := (if i < 5804 then (if i < 3901 then (if i < 2305 then (if i < 1110 then (if i < 400 then (if i < 114 then if i = 109 then some (-128, 127) else none else (if i < 300 then if i = 114 then some (-128, 127) else none else if i = 300 then some (-128, 127) else none)) else (if i < 900 then (if i < 703 then if i = 400 then some (0, 2147483647) else none else if i = 703 then some (0, 1) else none) else (if i < 1109 then if i = 900 then some (-128, 127) else none else if i = 1109 then some (0, 255) else none))) else (if i < 1202 then (if i < 1112 then if i = 1110 then some (-128, 127) else none else (if i < 1113 then if i = 1112 then some (0, 65535) else none else if i = 1113 then some (0, 65535) else none)) else (if i < 1401 then (if i < 1300 then if i = 1202 then some (0, 255) else none else if i = 1300 then some (-128, 65535) else none) else (if i < 1402 then if i = 1401 then some (0, 16384) else none else if i = 1402 then some (0, 32767) else none)))) else (if i < 2908 then (if i < 2904 then (if i < 2902 then if i = 2305 then some (0, 255) else none else (if i < 2903 then if i = 2902 then some (0, 65536) else none else if i = 2903 then some (0, 3) else none)) else (if i < 2906 then (if i < 2905 then if i = 2904 then some (0, 32) else none else if i = 2905 then some (0, 3) else none) else (if i < 2907 then if i = 2906 then some (0, 65536) else none else if i = 2907 then some (0, 65536) else none))) else (if i < 2912 then (if i < 2909 then if i = 2908 then some (0, 64) else none else (if i < 2911 then if i = 2909 then some (0, 64) else none else if i = 2911 then some (0, 3072) else none)) else (if i < 3700 then (if i < 3607 then if i = 2912 then some (0, 1024) else none else if i = 3607 then some (-2147483647, 2147483647) else none) else (if i < 3900 then if i = 3700 then some (-128, 127) else none else if i = 3900 then some (0, 46) else none))))) else (if i < 5413 then (if i < 4803 then (if i < 4302 then (if i < 4300 then if i = 3901 then some (0, 1) else none else (if i < 4301 then if i = 4300 then some (-128, 127) else none else if i = 4301 then some (0, 2147483647) else none)) else (if i < 4800 then (if i < 4500 then if i = 4302 then some (0, 30) else none else if i = 4500 then some (-128, 127) else none) else (if i < 4802 then if i = 4800 then some (0, 65535) else none else if i = 4802 then some (0, 120) else none))) else (if i < 5101 then (if i < 4804 then if i = 4803 then some (-1, 16383) else none else (if i < 5100 then if i = 4804 then some (-1, 16383) else none else if i = 5100 then some (-32768, 32767) else none)) else (if i < 5103 then (if i < 5102 then if i = 5101 then some (-32768, 32767) else none else if i = 5102 then some (-32768, 32767) else none) else (if i < 5412 then if i = 5103 then some (0, 1) else none else if i = 5412 then some (-32768, 32767) else none)))) else (if i < 5707 then (if i < 5701 then (if i < 5415 then if i = 5413 then some (-32768, 32767) else none else (if i < 5416 then if i = 5415 then some (-32768, 32767) else none else if i = 5416 then some (-32768, 32767) else none)) else (if i < 5705 then (if i < 5704 then if i = 5701 then some (0, 2147483647) else none else if i = 5704 then some (0, 128) else none) else (if i < 5706 then if i = 5705 then some (0, 1) else none else if i = 5706 then some (0, 255) else none))) else (if i < 5715 then (if i < 5713 then if i = 5707 then some (0, 255) else none else (if i < 5714 then if i = 5713 then some (0, 257) else none else if i = 5714 then some (0, 15) else none)) else (if i < 5718 then (if i < 5716 then if i = 5715 then some (0, 15) else none else if i = 5716 then some (0, 65535) else none) else (if i < 5719 then if i = 5718 then some (0, 65535) else none else if i = 5719 then some (0, 255) else none)))))) else (if i < 6129 then (if i < 6100 then (if i < 5913 then (if i < 5815 then (if i < 5809 then if i = 5804 then some (0, 255) else none else (if i < 5812 then if i = 5809 then some (0, 255) else none else if i = 5812 then some (0, 255) else none)) else (if i < 5818 then (if i < 5817 then if i = 5815 then some (0, 65535) else none else if i = 5817 then some (0, 65535) else none) else (if i < 5819 then if i = 5818 then some (-128, 65535) else none else if i = 5819 then some (0, 255) else none))) else (if i < 5916 then (if i < 5914 then if i = 5913 then some (0, 255) else none else (if i < 5915 then if i = 5914 then some (0, 255) else none else if i = 5915 then some (0, 32) else none)) else (if i < 5918 then (if i < 5917 then if i = 5916 then some (0, 10) else none else if i = 5917 then some (0, 10) else none) else (if i < 5919 then if i = 5918 then some (0, 15) else none else if i = 5919 then some (0, 15) else none)))) else (if i < 6118 then (if i < 6108 then (if i < 6101 then if i = 6100 then some (0, 22017) else none else (if i < 6107 then if i = 6101 then some (0, 46) else none else if i = 6107 then some (0, 2147483647) else none)) else (if i < 6115 then (if i < 6113 then if i = 6108 then some (0, 1) else none else if i = 6113 then some (0, 65541) else none) else (if i < 6117 then if i = 6115 then some (0, 91) else none else if i = 6117 then some (0, 65536) else none))) else (if i < 6122 then (if i < 6120 then if i = 6118 then some (0, 65536) else none else (if i < 6121 then if i = 6120 then some (0, 2147483647) else none else if i = 6121 then some (0, 1) else none)) else (if i < 6124 then (if i < 6123 then if i = 6122 then some (0, 30) else none else if i = 6123 then some (-1, 30) else none) else (if i < 6128 then if i = 6124 then some (0, 1) else none else if i = 6128 then some (0, 46) else none))))) else (if i < 6324 then (if i < 6310 then (if i < 6220 then (if i < 6131 then if i = 6129 then some (0, 1) else none else (if i < 6207 then if i = 6131 then some (0, 255) else none else if i = 6207 then some (-128, 127) else none)) else (if i < 6308 then (if i < 6307 then if i = 6220 then some (0, 1) else none else if i = 6307 then some (0, 255) else none) else (if i < 6309 then if i = 6308 then some (0, 255) else none else if i = 6309 then some (0, 32) else none))) else (if i < 6318 then (if i < 6311 then if i = 6310 then some (0, 15) else none else (if i < 6315 then if i = 6311 then some (0, 15) else none else if i = 6315 then some (0, 255) else none)) else (if i < 6320 then (if i < 6319 then if i = 6318 then some (0, 15) else none else if i = 6319 then some (0, 32) else none) else (if i < 6323 then if i = 6320 then some (0, 4095) else none else if i = 6323 then some (0, 255) else none)))) else (if i < 6512 then (if i < 6406 then (if i < 6403 then if i = 6324 then some (0, 4095) else none else (if i < 6404 then if i = 6403 then some (0, 120) else none else if i = 6404 then some (0, 17408) else none)) else (if i < 6413 then (if i < 6409 then if i = 6406 then some (0, 65535) else none else if i = 6409 then some (0, 120) else none) else (if i < 6414 then if i = 6413 then some (0, 120) else none else if i = 6414 then some (-1, 120) else none))) else (if i < 6706 then (if i < 6514 then (if i < 6513 then if i = 6512 then some (0, 15) else none else if i = 6513 then some (0, 15) else none) else (if i < 6705 then if i = 6514 then some (0, 65535) else none else if i = 6705 then some (0, 15) else none)) else (if i < 7205 then (if i < 7100 then if i = 6706 then some (0, 15) else none else if i = 7100 then some (0, 120) else none) else (if i < 7206 then if i = 7205 then some (0, 15) else none else if i = 7206 then some (0, 15) else none)))))))
def okr : Option (Int × Int) → Int → Prop
  | some p, x => p.1 ≤ x ∧ x ≤ p.2
  | none, _ => True
def Ty (D : Dt) : Prop := (∀ i a, okr (lkI i) (d_I D i a)) ∧ (∀ i a j, okr (lkA i) (d_A D i a j))
theorem tyIg {D E : Dt} {i a : Nat} {v : Int} (e : E = u_I D i a v) (h : Ty D) (hv : okr (lkI i) v) : Ty E := by
  subst e
  refine ⟨fun j b => ?_, fun j b k => h.2 j b k⟩
  show okr (lkI j) (if j = i ∧ b = a then v else d_I D j b)
  split
  · rename_i hh; rw [hh.1]; exact hv
  · exact h.1 j b
theorem tyAg {D E : Dt} {i a : Nat} {k v : Int} (e : E = u_A D i a k v) (h : Ty D) (hv : okr (lkA i) v) : Ty E := by
  subst e
  refine ⟨fun j b => h.1 j b, fun j b l => ?_⟩
  show okr (lkA j) (if j = i ∧ b = a ∧ l = k then v else d_A D j b l)
  split
  · rename_i hh; rw [hh.1]; exact hv
  · exact h.2 j b l
theorem okn {o : Option (Int × Int)} (h : o = none) (v : Int) : okr o v := by subst h; trivial
theorem tyI_no {D E : Dt} {i a : Nat} {v : Int} (e : E = u_I D i a v) (h : Ty D) (hn : lkI i = none) : Ty E := tyIg e h (okn hn v)
theorem tyA_no {D E : Dt} {i a : Nat} {k v : Int} (e : E = u_A D i a k v) (h : Ty D) (hn : lkA i = none) : Ty E := tyAg e h (okn hn v)
theorem tyR {D E : Dt} {i a : Nat} {v : Option Nat} (e : E = u_R D i a v) (h : Ty D) : Ty E := by subst e; exact ⟨h.1, h.2⟩
theorem tyF {D E : Dt} {i a : Nat} {k : Int} {v : UInt32} (e : E = u_F D i a k v) (h : Ty D) : Ty E := by subst e; exact ⟨h.1, h.2⟩
theorem tyq {D E : Dt} {i a : Nat} {k : Int} {v : Option Nat} (e : E = u_q D i a k v) (h : Ty D) : Ty E := by subst e; exact ⟨h.1, h.2⟩
theorem tyN {D E : Dt} {i a v : Nat} (e : E = u_N D i a v) (h : Ty D) : Ty E := by subst e; exact ⟨h.1, h.2⟩
theorem tyWg {D E : Dt} {i a : Nat} {f : Int → Int} (e : E = u_W D i a f) (h : Ty D) (hv : ∀ j, okr (lkA i) (f j)) : Ty E := by
  subst e
  refine ⟨fun j b => h.1 j b, fun j b l => ?_⟩
  show okr (lkA j) (up2 D.2.2.2.1 i a f j b l)
  unfold up2
  split
  · rename_i hh; rw [hh.1]; exact hv l
  · exact h.2 j b l
theorem ty_e {D E : Dt} (e : E = D) (h : Ty D) : Ty E := by subst e; exact h
theorem ty_121 {D : Dt} (h : Ty D) (a : Nat) : 0 ≤ d_I D 121 a ∧ d_I D 121 a ≤ 1 := h.1 121 a
theorem tyI_121 {D E : Dt} {a : Nat} {v : Int} (e : E = u_I D 121 a v) (h : Ty D) (hv : 0 ≤ v ∧ v ≤ 1) : Ty E := tyIg e h hv
theorem ty_205 {D : Dt} (h : Ty D) (a : Nat) : 0 ≤ d_I D 205 a ∧ d_I D 205 a ≤ 1 := h.1 205 a
theorem tyI_205 {D E : Dt} {a : Nat} {v : Int} (e : E = u_I D 205 a v) (h : Ty D) (hv : 0 ≤ v ∧ v ≤ 1) : Ty E := tyIg e h hv
theorem ty_301 {D : Dt} (h : Ty D) (a : Nat) : 0 ≤ d_I D 301 a ∧ d_I D 301 a ≤ 32768 := h.1 301 a
theorem tyI_301 {D E : Dt} {a : Nat} {v : Int} (e : E = u_I D 301 a v) (h : Ty D) (hv : 0 ≤ v ∧ v ≤ 32768) : Ty E := tyIg e h hv
theorem ty_402 {D : Dt} (h : Ty D) (a : Nat) : 0 ≤ d_I D 402 a ∧ d_I D 402 a ≤ 16 := h.1 402 a
theorem tyI_402 {D E : Dt} {a : Nat} {v : Int} (e : E = u_I D 402 a v) (h : Ty D) (hv : 0 ≤ v ∧ v ≤ 16) : Ty E := tyIg e h hv
theorem ty_403 {D : Dt} (h : Ty D) (a : Nat) : 0 ≤ d_I D 403 a ∧ d_I D 403 a ≤ 255 := h.1 403 a
theorem tyI_403 {D E : Dt} {a : Nat} {v : Int} (e : E = u_I D 403 a v) (h : Ty D) (hv : 0 ≤ v ∧ v ≤ 255) : Ty E := tyIg e h hv
theorem ty_404 {D : Dt} (h : Ty D) (a : Nat) : 0 ≤ d_I D 404 a ∧ d_I D 404 a ≤ 65535 := h.1 404 a
theorem tyI_404 {D E : Dt} {a : Nat} {v : Int} (e : E = u_I D 404 a v) (h : Ty D) (hv : 0 ≤ v ∧ v ≤ 65535) : Ty E := tyIg e h hv
theorem ty_405 {D : Dt} (h : Ty D) (a : Nat) : 0 ≤ d_I D 405 a ∧ d_I D 405 a ≤ 32 := h.1 405 a
theorem tyI_405 {D E : Dt} {a : Nat} {v : Int} (e : E = u_I D 405 a v) (h : Ty D) (hv : 0 ≤ v ∧ v ≤ 32) : Ty E := tyIg e h hv
theorem ty_406 {D : Dt} (h : Ty D) (a : Nat) : 0 ≤ d_I D 406 a ∧ d_I D 406 a ≤ 1 := h.1 406 a
theorem tyI_406 {D E : Dt} {a : Nat} {v : Int} (e : E = u_I D 406 a v) (h : Ty D) (hv : 0 ≤ v ∧ v ≤ 1) : Ty E := tyIg e h hv
theorem ty_407 {D : Dt} (h : Ty D) (a : Nat) : 0 ≤ d_I D 407 a ∧ d_I D 407 a ≤ 1 := h.1 407 a
theorem tyI_407 {D E : Dt} {a : Nat} {v : Int} (e : E = u_I D 407 a v) (h : Ty D) (hv : 0 ≤ v ∧ v ≤ 1) : Ty E := tyIg e h hv
theorem ty_408 {D : Dt} (h : Ty D) (a : Nat) : 0 ≤ d_I D 408 a ∧ d_I D 408 a ≤ 1 := h.1 408 a
theorem tyI_408 {D E : Dt} {a : Nat} {v : Int} (e : E = u_I D 408 a v) (h : Ty D) (hv : 0 ≤ v ∧ v ≤ 1) : Ty E := tyIg e h hv
theorem ty_700 {D : Dt} (h : Ty D) (a : Nat) : 0 ≤ d_I D 700 a ∧ d_I D 700 a ≤ 1 := h.1 700 a
theorem tyI_700 {D E : Dt} {a : Nat} {v : Int} (e : E = u_I D 700 a v) (h : Ty D) (hv : 0 ≤ v ∧ v ≤ 1) : Ty E := tyIg e h hv
theorem ty_701 {D : Dt} (h : Ty D) (a : Nat) : 0 ≤ d_I D 701 a ∧ d_I D 701 a ≤ 1 := h.1 701 a
theorem tyI_701 {D E : Dt} {a : Nat} {v : Int} (e : E = u_I D 701 a v) (h : Ty D) (hv : 0 ≤ v ∧ v ≤ 1) : Ty E := tyIg e h hv
theorem ty_702 {D : Dt} (h : Ty D) (a : Nat) : 0 ≤ d_I D 702 a ∧ d_I D 702 a ≤ 1 := h.1 702 a
theorem tyI_702 {D E : Dt} {a : Nat} {v : Int} (e : E = u_I D 702 a v) (h : Ty D) (hv : 0 ≤ v ∧ v ≤ 1) : Ty E := tyIg e h hv
theorem ty_804 {D : Dt} (h : Ty D) (a : Nat) : 0 ≤ d_I D 804 a ∧ d_I D 804 a ≤ 1 := h.1 804 a
theorem tyI_804 {D E : Dt} {a : Nat} {v : Int} (e : E = u_I D 804 a v) (h : Ty D) (hv : 0 ≤ v ∧ v ≤ 1) : Ty E := tyIg e h hv
theorem ty_901 {D : Dt} (h : Ty D) (a : Nat) : 0 ≤ d_I D 901 a ∧ d_I D 901 a ≤ 32768 := h.1 901 a
theorem tyI_901 {D E : Dt} {a : Nat} {v : Int} (e : E = u_I D 901 a v) (h : Ty D) (hv : 0 ≤ v ∧ v ≤ 32768) : Ty E := tyIg e h hv
theorem ty_1008 {D : Dt} (h : Ty D) (a : Nat) : 0 ≤ d_I D 1008 a ∧ d_I D 1008 a ≤ 1 := h.1 1008 a
theorem tyI_1008 {D E : Dt} {a : Nat} {v : Int} (e : E = u_I D 1008 a v) (h : Ty D) (hv : 0 ≤ v ∧ v ≤ 1) : Ty E := tyIg e h hv
theorem ty_1009 {D : Dt} (h : Ty D) (a : Nat) : 0 ≤ d_I D 1009 a ∧ d_I D 1009 a ≤ 1 := h.1 1009 a
theorem tyI_1009 {D E : Dt} {a : Nat} {v : Int} (e : E = u_I D 1009 a v) (h : Ty D) (hv : 0 ≤ v ∧ v ≤ 1) : Ty E := tyIg e h hv
theorem ty_1010 {D : Dt} (h : Ty D) (a : Nat) : 0 ≤ d_I D 1010 a ∧ d_I D 1010 a ≤ 1 := h.1 1010 a
theorem tyI_1010 {D E : Dt} {a : Nat} {v : Int} (e : E = u_I D 1010 a v) (h : Ty D) (hv : 0 ≤ v ∧ v ≤ 1) : Ty E := tyIg e h hv
theorem ty_1011 {D : Dt} (h : Ty D) (a : Nat) : 0 ≤ d_I D 1011 a ∧ d_I D 1011 a ≤ 1 := h.1 1011 a
theorem tyI_1011 {D E : Dt} {a : Nat} {v : Int} (e : E = u_I D 1011 a v) (h : Ty D) (hv : 0 ≤ v ∧ v ≤ 1) : Ty E := tyIg e h hv
theorem ty_1100 {D : Dt} (h : Ty D) (a : Nat) : 0 ≤ d_I D 1100 a ∧ d_I D 1100 a ≤ 2147483647 := h.1 1100 a
theorem tyI_1100 {D E : Dt} {a : Nat} {v : Int} (e : E = u_I D 1100 a v) (h : Ty D) (hv : 0 ≤ v ∧ v ≤ 2147483647) : Ty E := tyIg e h hv
theorem ty_1101 {D : Dt} (h : Ty D) (a : Nat) : 0 ≤ d_I D 1101 a ∧ d_I D 1101 a ≤ 2147483647 := h.1 1101 a
theorem tyI_1101 {D E : Dt} {a : Nat} {v : Int} (e : E = u_I D 1101 a v) (h : Ty D) (hv : 0 ≤ v ∧ v ≤ 2147483647) : Ty E := tyIg e h hv
theorem ty_1102 {D : Dt} (h : Ty D) (a : Nat) : 0 ≤ d_I D 1102 a ∧ d_I D 1102 a ≤ 16 := h.1 1102 a
theorem tyI_1102 {D E : Dt} {a : Nat} {v : Int} (e : E = u_I D 1102 a v) (h : Ty D) (hv : 0 ≤ v ∧ v ≤ 16) : Ty E := tyIg e h hv
theorem ty_1103 {D : Dt} (h : Ty D) (a : Nat) : 0 ≤ d_I D 1103 a ∧ d_I D 1103 a ≤ 18 := h.1 1103 a
theorem tyI_1103 {D E : Dt} {a : Nat} {v : Int} (e : E = u_I D 1103 a v) (h : Ty D) (hv : 0 ≤ v ∧ v ≤ 18) : Ty E := tyIg e h hv
theorem ty_1104 {D : Dt} (h : Ty D) (a : Nat) : -1 ≤ d_I D 1104 a ∧ d_I D 1104 a ≤ 1024 := h.1 1104 a
theorem tyI_1104 {D E : Dt} {a : Nat} {v : Int} (e : E = u_I D 1104 a v) (h : Ty D) (hv : -1 ≤ v ∧ v ≤ 1024) : Ty E := tyIg e h hv
theorem ty_1105 {D : Dt} (h : Ty D) (a : Nat) : 0 ≤ d_I D 1105 a ∧ d_I D 1105 a ≤ 16 := h.1 1105 a
theorem tyI_1105 {D E : Dt} {a : Nat} {v : Int} (e : E = u_I D 1105 a v) (h : Ty D) (hv : 0 ≤ v ∧ v ≤ 16) : Ty E := tyIg e h hv
theorem ty_1106 {D : Dt} (h : Ty D) (a : Nat) : 0 ≤ d_I D 1106 a ∧ d_I D 1106 a ≤ 16 := h.1 1106 a
theorem tyI_1106 {D E : Dt} {a : Nat} {v : Int} (e : E = u_I D 1106 a v) (h : Ty D) (hv : 0 ≤ v ∧ v ≤ 16) : Ty E := tyIg e h hv
theorem ty_1107 {D : Dt} (h : Ty D) (a : Nat) : 0 ≤ d_I D 1107 a ∧ d_I D 1107 a ≤ 1 := h.1 1107 a
theorem tyI_1107 {D E : Dt} {a : Nat} {v : Int} (e : E = u_I D 1107 a v) (h : Ty D) (hv : 0 ≤ v ∧ v ≤ 1) : Ty E := tyIg e h hv
theorem ty_1108 {D : Dt} (h : Ty D) (a : Nat) : 0 ≤ d_I D 1108 a ∧ d_I D 1108 a ≤ 1 := h.1 1108 a
theorem tyI_1108 {D E : Dt} {a : Nat} {v : Int} (e : E = u_I D 1108 a v) (h : Ty D) (hv : 0 ≤ v ∧ v ≤ 1) : Ty E := tyIg e h hv
theorem ty_1200 {D : Dt} (h : Ty D) (a : Nat) : 0 ≤ d_I D 1200 a ∧ d_I D 1200 a ≤ 1024 := h.1 1200 a
theorem tyI_1200 {D E : Dt} {a : Nat} {v : Int} (e : E = u_I D 1200 a v) (h : Ty D) (hv : 0 ≤ v ∧ v ≤ 1024) : Ty E := tyIg e h hv
theorem ty_1201 {D : Dt} (h : Ty D) (a : Nat) : 0 ≤ d_I D 1201 a ∧ d_I D 1201 a ≤ 8 := h.1 1201 a
theorem tyI_1201 {D E : Dt} {a : Nat} {v : Int} (e : E = u_I D 1201 a v) (h : Ty D) (hv : 0 ≤ v ∧ v ≤ 8) : Ty E := tyIg e h hv
theorem ty_1403 {D : Dt} (h : Ty D) (a : Nat) : 0 ≤ d_I D 1403 a ∧ d_I D 1403 a ≤ 4 := h.1 1403 a
theorem tyI_1403 {D E : Dt} {a : Nat} {v : Int} (e : E = u_I D 1403 a v) (h : Ty D) (hv : 0 ≤ v ∧ v ≤ 4) : Ty E := tyIg e h hv
theorem ty_1404 {D : Dt} (h : Ty D) (a : Nat) : 0 ≤ d_I D 1404 a ∧ d_I D 1404 a ≤ 16384 := h.1 1404 a
theorem tyI_1404 {D E : Dt} {a : Nat} {v : Int} (e : E = u_I D 1404 a v) (h : Ty D) (hv : 0 ≤ v ∧ v ≤ 16384) : Ty E := tyIg e h hv
theorem ty_1405 {D : Dt} (h : Ty D) (a : Nat) : 0 ≤ d_I D 1405 a ∧ d_I D 1405 a ≤ 1 := h.1 1405 a
theorem tyI_1405 {D E : Dt} {a : Nat} {v : Int} (e : E = u_I D 1405 a v) (h : Ty D) (hv : 0 ≤ v ∧ v ≤ 1) : Ty E := tyIg e h hv
theorem ty_1602 {D : Dt} (h : Ty D) (a : Nat) : 0 ≤ d_I D 1602 a ∧ d_I D 1602 a ≤ 32767 := h.1 1602 a
theorem tyI_1602 {D E : Dt} {a : Nat} {v : Int} (e : E = u_I D 1602 a v) (h : Ty D) (hv : 0 ≤ v ∧ v ≤ 32767) : Ty E := tyIg e h hv
theorem ty_1603 {D : Dt} (h : Ty D) (a : Nat) : 0 ≤ d_I D 1603 a ∧ d_I D 1603 a ≤ 32767 := h.1 1603 a
theorem tyI_1603 {D E : Dt} {a : Nat} {v : Int} (e : E = u_I D 1603 a v) (h : Ty D) (hv : 0 ≤ v ∧ v ≤ 32767) : Ty E := tyIg e h hv
theorem ty_1604 {D : Dt} (h : Ty D) (a : Nat) : 0 ≤ d_I D 1604 a ∧ d_I D 1604 a ≤ 32768 := h.1 1604 a
theorem tyI_1604 {D E : Dt} {a : Nat} {v : Int} (e : E = u_I D 1604 a v) (h : Ty D) (hv : 0 ≤ v ∧ v ≤ 32768) : Ty E := tyIg e h hv
theorem ty_1605 {D : Dt} (h : Ty D) (a : Nat) : 0 ≤ d_I D 1605 a ∧ d_I D 1605 a ≤ 32768 := h.1 1605 a
theorem tyI_1605 {D E : Dt} {a : Nat} {v : Int} (e : E = u_I D 1605 a v) (h : Ty D) (hv : 0 ≤ v ∧ v ≤ 32768) : Ty E := tyIg e h hv
theorem ty_1606 {D : Dt} (h : Ty D) (a : Nat) : 0 ≤ d_I D 1606 a ∧ d_I D 1606 a ≤ 32767 := h.1 1606 a
theorem tyI_1606 {D E : Dt} {a : Nat} {v : Int} (e : E = u_I D 1606 a v) (h : Ty D) (hv : 0 ≤ v ∧ v ≤ 32767) : Ty E := tyIg e h hv
theorem ty_1607 {D : Dt} (h : Ty D) (a : Nat) : 0 ≤ d_I D 1607 a ∧ d_I D 1607 a ≤ 32767 := h.1 1607 a
theorem tyI_1607 {D E : Dt} {a : Nat} {v : Int} (e : E = u_I D 1607 a v) (h : Ty D) (hv : 0 ≤ v ∧ v ≤ 32767) : Ty E := tyIg e h hv
theorem ty_1609 {D : Dt} (h : Ty D) (a : Nat) : 0 ≤ d_I D 1609 a ∧ d_I D 1609 a ≤ 16 := h.1 1609 a
theorem tyI_1609 {D E : Dt} {a : Nat} {v : Int} (e : E = u_I D 1609 a v) (h : Ty D) (hv : 0 ≤ v ∧ v ≤ 16) : Ty E := tyIg e h hv
theorem ty_1700 {D : Dt} (h : Ty D) (a : Nat) : 0 ≤ d_I D 1700 a ∧ d_I D 1700 a ≤ 65536 := h.1 1700 a
theorem tyI_1700 {D E : Dt} {a : Nat} {v : Int} (e : E = u_I D 1700 a v) (h : Ty D) (hv : 0 ≤ v ∧ v ≤ 65536) : Ty E := tyIg e h hv
theorem ty_1701 {D : Dt} (h : Ty D) (a : Nat) : 0 ≤ d_I D 1701 a ∧ d_I D 1701 a ≤ 65536 := h.1 1701 a
theorem tyI_1701 {D E : Dt} {a : Nat} {v : Int} (e : E = u_I D 1701 a v) (h : Ty D) (hv : 0 ≤ v ∧ v ≤ 65536) : Ty E := tyIg e h hv
theorem ty_1702 {D : Dt} (h : Ty D) (a : Nat) : 0 ≤ d_I D 1702 a ∧ d_I D 1702 a ≤ 65536 := h.1 1702 a
theorem tyI_1702 {D E : Dt} {a : Nat} {v : Int} (e : E = u_I D 1702 a v) (h : Ty D) (hv : 0 ≤ v ∧ v ≤ 65536) : Ty E := tyIg e h hv
theorem ty_1703 {D : Dt} (h : Ty D) (a : Nat) : 0 ≤ d_I D 1703 a ∧ d_I D 1703 a ≤ 65536 := h.1 1703 a
theorem tyI_1703 {D E : Dt} {a : Nat} {v : Int} (e : E = u_I D 1703 a v) (h : Ty D) (hv : 0 ≤ v ∧ v ≤ 65536) : Ty E := tyIg e h hv
theorem ty_1802 {D : Dt} (h : Ty D) (a : Nat) : 0 ≤ d_I D 1802 a ∧ d_I D 1802 a ≤ 32 := h.1 1802 a
theorem tyI_1802 {D E : Dt} {a : Nat} {v : Int} (e : E = u_I D 1802 a v) (h : Ty D) (hv : 0 ≤ v ∧ v ≤ 32) : Ty E := tyIg e h hv
theorem ty_1900 {D : Dt} (h : Ty D) (a : Nat) : 0 ≤ d_I D 1900 a ∧ d_I D 1900 a ≤ 32 := h.1 1900 a
theorem tyI_1900 {D E : Dt} {a : Nat} {v : Int} (e : E = u_I D 1900 a v) (h : Ty D) (hv : 0 ≤ v ∧ v ≤ 32) : Ty E := tyIg e h hv
theorem ty_1903 {D : Dt} (h : Ty D) (a : Nat) : 0 ≤ d_I D 1903 a ∧ d_I D 1903 a ≤ 15 := h.1 1903 a
theorem tyI_1903 {D E : Dt} {a : Nat} {v : Int} (e : E = u_I D 1903 a v) (h : Ty D) (hv : 0 ≤ v ∧ v ≤ 15) : Ty E := tyIg e h hv
theorem ty_1904 {D : Dt} (h : Ty D) (a : Nat) : 0 ≤ d_I D 1904 a ∧ d_I D 1904 a ≤ 15 := h.1 1904 a
theorem tyI_1904 {D E : Dt} {a : Nat} {v : Int} (e : E = u_I D 1904 a v) (h : Ty D) (hv : 0 ≤ v ∧ v ≤ 15) : Ty E := tyIg e h hv
theorem ty_1905 {D : Dt} (h : Ty D) (a : Nat) : 0 ≤ d_I D 1905 a ∧ d_I D 1905 a ≤ 65536 := h.1 1905 a
theorem tyI_1905 {D E : Dt} {a : Nat} {v : Int} (e : E = u_I D 1905 a v) (h : Ty D) (hv : 0 ≤ v ∧ v ≤ 65536) : Ty E := tyIg e h hv
theorem ty_1906 {D : Dt} (h : Ty D) (a : Nat) : 0 ≤ d_I D 1906 a ∧ d_I D 1906 a ≤ 65536 := h.1 1906 a
theorem tyI_1906 {D E : Dt} {a : Nat} {v : Int} (e : E = u_I D 1906 a v) (h : Ty D) (hv : 0 ≤ v ∧ v ≤ 65536) : Ty E := tyIg e h hv
theorem ty_2000 {D : Dt} (h : Ty D) (a : Nat) : 0 ≤ d_I D 2000 a ∧ d_I D 2000 a ≤ 3 := h.1 2000 a
theorem tyI_2000 {D E : Dt} {a : Nat} {v : Int} (e : E = u_I D 2000 a v) (h : Ty D) (hv : 0 ≤ v ∧ v ≤ 3) : Ty E := tyIg e h hv
theorem ty_2002 {D : Dt} (h : Ty D) (a : Nat) : -1 ≤ d_I D 2002 a ∧ d_I D 2002 a ≤ 15 := h.1 2002 a
theorem tyI_2002 {D E : Dt} {a : Nat} {v : Int} (e : E = u_I D 2002 a v) (h : Ty D) (hv : -1 ≤ v ∧ v ≤ 15) : Ty E := tyIg e h hv
theorem ty_2003 {D : Dt} (h : Ty D) (a : Nat) : -1 ≤ d_I D 2003 a ∧ d_I D 2003 a ≤ 15 := h.1 2003 a
theorem tyI_2003 {D E : Dt} {a : Nat} {v : Int} (e : E = u_I D 2003 a v) (h : Ty D) (hv : -1 ≤ v ∧ v ≤ 15) : Ty E := tyIg e h hv
theorem ty_2004 {D : Dt} (h : Ty D) (a : Nat) : -1 ≤ d_I D 2004 a ∧ d_I D 2004 a ≤ 15 := h.1 2004 a
theorem tyI_2004 {D E : Dt} {a : Nat} {v : Int} (e : E = u_I D 2004 a v) (h : Ty D) (hv : -1 ≤ v ∧ v ≤ 15) : Ty E := tyIg e h hv
theorem ty_2005 {D : Dt} (h : Ty D) (a : Nat) : -1 ≤ d_I D 2005 a ∧ d_I D 2005 a ≤ 15 := h.1 2005 a
theorem tyI_2005 {D E : Dt} {a : Nat} {v : Int} (e : E = u_I D 2005 a v) (h : Ty D) (hv : -1 ≤ v ∧ v ≤ 15) : Ty E := tyIg e h hv
theorem ty_2101 {D : Dt} (h : Ty D) (a : Nat) : 0 ≤ d_I D 2101 a ∧ d_I D 2101 a ≤ 16 := h.1 2101 a
theorem tyI_2101 {D E : Dt} {a : Nat} {v : Int} (e : E = u_I D 2101 a v) (h : Ty D) (hv : 0 ≤ v ∧ v ≤ 16) : Ty E := tyIg e h hv
theorem ty_2102 {D : Dt} (h : Ty D) (a : Nat) : 0 ≤ d_I D 2102 a ∧ d_I D 2102 a ≤ 255 := h.1 2102 a
theorem tyI_2102 {D E : Dt} {a : Nat} {v : Int} (e : E = u_I D 2102 a v) (h : Ty D) (hv : 0 ≤ v ∧ v ≤ 255) : Ty E := tyIg e h hv
theorem ty_2103 {D : Dt} (h : Ty D) (a : Nat) : 0 ≤ d_I D 2103 a ∧ d_I D 2103 a ≤ 4 := h.1 2103 a
theorem tyI_2103 {D E : Dt} {a : Nat} {v : Int} (e : E = u_I D 2103 a v) (h : Ty D) (hv : 0 ≤ v ∧ v ≤ 4) : Ty E := tyIg e h hv
theorem ty_2106 {D : Dt} (h : Ty D) (a : Nat) : 0 ≤ d_I D 2106 a ∧ d_I D 2106 a ≤ 32 := h.1 2106 a
theorem tyI_2106 {D E : Dt} {a : Nat} {v : Int} (e : E = u_I D 2106 a v) (h : Ty D) (hv : 0 ≤ v ∧ v ≤ 32) : Ty E := tyIg e h hv
theorem ty_2111 {D : Dt} (h : Ty D) (a : Nat) : 0 ≤ d_I D 2111 a ∧ d_I D 2111 a ≤ 1 := h.1 2111 a
theorem tyI_2111 {D E : Dt} {a : Nat} {v : Int} (e : E = u_I D 2111 a v) (h : Ty D) (hv : 0 ≤ v ∧ v ≤ 1) : Ty E := tyIg e h hv
theorem ty_2112 {D : Dt} (h : Ty D) (a : Nat) : -1 ≤ d_I D 2112 a ∧ d_I D 2112 a ≤ 32 := h.1 2112 a
theorem tyI_2112 {D E : Dt} {a : Nat} {v : Int} (e : E = u_I D 2112 a v) (h : Ty D) (hv : -1 ≤ v ∧ v ≤ 32) : Ty E := tyIg e h hv
theorem ty_2200 {D : Dt} (h : Ty D) (a : Nat) : 0 ≤ d_I D 2200 a ∧ d_I D 2200 a ≤ 32 := h.1 2200 a
theorem tyI_2200 {D E : Dt} {a : Nat} {v : Int} (e : E = u_I D 2200 a v) (h : Ty D) (hv : 0 ≤ v ∧ v ≤ 32) : Ty E := tyIg e h hv
theorem ty_2201 {D : Dt} (h : Ty D) (a : Nat) : 0 ≤ d_I D 2201 a ∧ d_I D 2201 a ≤ 33 := h.1 2201 a
theorem tyI_2201 {D E : Dt} {a : Nat} {v : Int} (e : E = u_I D 2201 a v) (h : Ty D) (hv : 0 ≤ v ∧ v ≤ 33) : Ty E := tyIg e h hv
theorem ty_2202 {D : Dt} (h : Ty D) (a : Nat) : 0 ≤ d_I D 2202 a ∧ d_I D 2202 a ≤ 15 := h.1 2202 a
theorem tyI_2202 {D E : Dt} {a : Nat} {v : Int} (e : E = u_I D 2202 a v) (h : Ty D) (hv : 0 ≤ v ∧ v ≤ 15) : Ty E := tyIg e h hv
theorem ty_2203 {D : Dt} (h : Ty D) (a : Nat) : 0 ≤ d_I D 2203 a ∧ d_I D 2203 a ≤ 16 := h.1 2203 a
theorem tyI_2203 {D E : Dt} {a : Nat} {v : Int} (e : E = u_I D 2203 a v) (h : Ty D) (hv : 0 ≤ v ∧ v ≤ 16) : Ty E := tyIg e h hv
theorem ty_2204 {D : Dt} (h : Ty D) (a : Nat) : 0 ≤ d_I D 2204 a ∧ d_I D 2204 a ≤ 255 := h.1 2204 a
theorem tyI_2204 {D E : Dt} {a : Nat} {v : Int} (e : E = u_I D 2204 a v) (h : Ty D) (hv : 0 ≤ v ∧ v ≤ 255) : Ty E := tyIg e h hv
theorem ty_2205 {D : Dt} (h : Ty D) (a : Nat) : 0 ≤ d_I D 2205 a ∧ d_I D 2205 a ≤ 4 := h.1 2205 a
theorem tyI_2205 {D E : Dt} {a : Nat} {v : Int} (e : E = u_I D 2205 a v) (h : Ty D) (hv : 0 ≤ v ∧ v ≤ 4) : Ty E := tyIg e h hv
theorem ty_2303 {D : Dt} (h : Ty D) (a : Nat) : 0 ≤ d_I D 2303 a ∧ d_I D 2303 a ≤ 16 := h.1 2303 a
theorem tyI_2303 {D E : Dt} {a : Nat} {v : Int} (e : E = u_I D 2303 a v) (h : Ty D) (hv : 0 ≤ v ∧ v ≤ 16) : Ty E := tyIg e h hv
theorem ty_2400 {D : Dt} (h : Ty D) (a : Nat) : 0 ≤ d_I D 2400 a ∧ d_I D 2400 a ≤ 65536 := h.1 2400 a
theorem tyI_2400 {D E : Dt} {a : Nat} {v : Int} (e : E = u_I D 2400 a v) (h : Ty D) (hv : 0 ≤ v ∧ v ≤ 65536) : Ty E := tyIg e h hv
theorem ty_2401 {D : Dt} (h : Ty D) (a : Nat) : 0 ≤ d_I D 2401 a ∧ d_I D 2401 a ≤ 65536 := h.1 2401 a
theorem tyI_2401 {D E : Dt} {a : Nat} {v : Int} (e : E = u_I D 2401 a v) (h : Ty D) (hv : 0 ≤ v ∧ v ≤ 65536) : Ty E := tyIg e h hv
theorem ty_2402 {D : Dt} (h : Ty D) (a : Nat) : 0 ≤ d_I D 2402 a ∧ d_I D 2402 a ≤ 65536 := h.1 2402 a
theorem tyI_2402 {D E : Dt} {a : Nat} {v : Int} (e : E = u_I D 2402 a v) (h : Ty D) (hv : 0 ≤ v ∧ v ≤ 65536) : Ty E := tyIg e h hv
theorem ty_2403 {D : Dt} (h : Ty D) (a : Nat) : 0 ≤ d_I D 2403 a ∧ d_I D 2403 a ≤ 65536 := h.1 2403 a
theorem tyI_2403 {D E : Dt} {a : Nat} {v : Int} (e : E = u_I D 2403 a v) (h : Ty D) (hv : 0 ≤ v ∧ v ≤ 65536) : Ty E := tyIg e h hv
theorem ty_2500 {D : Dt} (h : Ty D) (a : Nat) : 0 ≤ d_I D 2500 a ∧ d_I D 2500 a ≤ 255 := h.1 2500 a
theorem tyI_2500 {D E : Dt} {a : Nat} {v : Int} (e : E = u_I D 2500 a v) (h : Ty D) (hv : 0 ≤ v ∧ v ≤ 255) : Ty E := tyIg e h hv
theorem ty_2501 {D : Dt} (h : Ty D) (a : Nat) : 0 ≤ d_I D 2501 a ∧ d_I D 2501 a ≤ 4096 := h.1 2501 a
theorem tyI_2501 {D E : Dt} {a : Nat} {v : Int} (e : E = u_I D 2501 a v) (h : Ty D) (hv : 0 ≤ v ∧ v ≤ 4096) : Ty E := tyIg e h hv
theorem ty_2502 {D : Dt} (h : Ty D) (a : Nat) : 0 ≤ d_I D 2502 a ∧ d_I D 2502 a ≤ 32 := h.1 2502 a
theorem tyI_2502 {D E : Dt} {a : Nat} {v : Int} (e : E = u_I D 2502 a v) (h : Ty D) (hv : 0 ≤ v ∧ v ≤ 32) : Ty E := tyIg e h hv
theorem ty_2603 {D : Dt} (h : Ty D) (a : Nat) : 0 ≤ d_I D 2603 a ∧ d_I D 2603 a ≤ 255 := h.1 2603 a
theorem tyI_2603 {D E : Dt} {a : Nat} {v : Int} (e : E = u_I D 2603 a v) (h : Ty D) (hv : 0 ≤ v ∧ v ≤ 255) : Ty E := tyIg e h hv
theorem ty_2704 {D : Dt} (h : Ty D) (a : Nat) : 0 ≤ d_I D 2704 a ∧ d_I D 2704 a ≤ 33 := h.1 2704 a
theorem tyI_2704 {D E : Dt} {a : Nat} {v : Int} (e : E = u_I D 2704 a v) (h : Ty D) (hv : 0 ≤ v ∧ v ≤ 33) : Ty E := tyIg e h hv
theorem ty_2705 {D : Dt} (h : Ty D) (a : Nat) : 0 ≤ d_I D 2705 a ∧ d_I D 2705 a ≤ 16 := h.1 2705 a
theorem tyI_2705 {D E : Dt} {a : Nat} {v : Int} (e : E = u_I D 2705 a v) (h : Ty D) (hv : 0 ≤ v ∧ v ≤ 16) : Ty E := tyIg e h hv
theorem ty_2706 {D : Dt} (h : Ty D) (a : Nat) : 0 ≤ d_I D 2706 a ∧ d_I D 2706 a ≤ 4096 := h.1 2706 a
theorem tyI_2706 {D E : Dt} {a : Nat} {v : Int} (e : E = u_I D 2706 a v) (h : Ty D) (hv : 0 ≤ v ∧ v ≤ 4096) : Ty E := tyIg e h hv
theorem ty_2805 {D : Dt} (h : Ty D) (a : Nat) : 0 ≤ d_I D 2805 a ∧ d_I D 2805 a ≤ 33 := h.1 2805 a
theorem tyI_2805 {D E : Dt} {a : Nat} {v : Int} (e : E = u_I D 2805 a v) (h : Ty D) (hv : 0 ≤ v ∧ v ≤ 33) : Ty E := tyIg e h hv
theorem ty_2806 {D : Dt} (h : Ty D) (a : Nat) : 0 ≤ d_I D 2806 a ∧ d_I D 2806 a ≤ 33 := h.1 2806 a
theorem tyI_2806 {D E : Dt} {a : Nat} {v : Int} (e : E = u_I D 2806 a v) (h : Ty D) (hv : 0 ≤ v ∧ v ≤ 33) : Ty E := tyIg e h hv
theorem ty_2910 {D : Dt} (h : Ty D) (a : Nat) : 0 ≤ d_I D 2910 a ∧ d_I D 2910 a ≤ 1024 := h.1 2910 a
theorem tyI_2910 {D E : Dt} {a : Nat} {v : Int} (e : E = u_I D 2910 a v) (h : Ty D) (hv : 0 ≤ v ∧ v ≤ 1024) : Ty E := tyIg e h hv
theorem ty_2913 {D : Dt} (h : Ty D) (a : Nat) : 0 ≤ d_I D 2913 a ∧ d_I D 2913 a ≤ 1024 := h.1 2913 a
theorem tyI_2913 {D E : Dt} {a : Nat} {v : Int} (e : E = u_I D 2913 a v) (h : Ty D) (hv : 0 ≤ v ∧ v ≤ 1024) : Ty E := tyIg e h hv
theorem ty_2914 {D : Dt} (h : Ty D) (a : Nat) : 0 ≤ d_I D 2914 a ∧ d_I D 2914 a ≤ 3072 := h.1 2914 a
theorem tyI_2914 {D E : Dt} {a : Nat} {v : Int} (e : E = u_I D 2914 a v) (h : Ty D) (hv : 0 ≤ v ∧ v ≤ 3072) : Ty E := tyIg e h hv
theorem ty_3205 {D : Dt} (h : Ty D) (a : Nat) : 0 ≤ d_I D 3205 a ∧ d_I D 3205 a ≤ 1 := h.1 3205 a
theorem tyI_3205 {D E : Dt} {a : Nat} {v : Int} (e : E = u_I D 3205 a v) (h : Ty D) (hv : 0 ≤ v ∧ v ≤ 1) : Ty E := tyIg e h hv
theorem ty_3608 {D : Dt} (h : Ty D) (a : Nat) : 0 ≤ d_I D 3608 a ∧ d_I D 3608 a ≤ 64 := h.1 3608 a
theorem tyI_3608 {D E : Dt} {a : Nat} {v : Int} (e : E = u_I D 3608 a v) (h : Ty D) (hv : 0 ≤ v ∧ v ≤ 64) : Ty E := tyIg e h hv
theorem ty_3609 {D : Dt} (h : Ty D) (a : Nat) : 0 ≤ d_I D 3609 a ∧ d_I D 3609 a ≤ 64 := h.1 3609 a
theorem tyI_3609 {D E : Dt} {a : Nat} {v : Int} (e : E = u_I D 3609 a v) (h : Ty D) (hv : 0 ≤ v ∧ v ≤ 64) : Ty E := tyIg e h hv
theorem ty_3610 {D : Dt} (h : Ty D) (a : Nat) : 0 ≤ d_I D 3610 a ∧ d_I D 3610 a ≤ 3 := h.1 3610 a
theorem tyI_3610 {D E : Dt} {a : Nat} {v : Int} (e : E = u_I D 3610 a v) (h : Ty D) (hv : 0 ≤ v ∧ v ≤ 3) : Ty E := tyIg e h hv
theorem ty_3611 {D : Dt} (h : Ty D) (a : Nat) : 0 ≤ d_I D 3611 a ∧ d_I D 3611 a ≤ 63 := h.1 3611 a
theorem tyI_3611 {D E : Dt} {a : Nat} {v : Int} (e : E = u_I D 3611 a v) (h : Ty D) (hv : 0 ≤ v ∧ v ≤ 63) : Ty E := tyIg e h hv
theorem ty_3612 {D : Dt} (h : Ty D) (a : Nat) : 0 ≤ d_I D 3612 a ∧ d_I D 3612 a ≤ 1 := h.1 3612 a
theorem tyI_3612 {D E : Dt} {a : Nat} {v : Int} (e : E = u_I D 3612 a v) (h : Ty D) (hv : 0 ≤ v ∧ v ≤ 1) : Ty E := tyIg e h hv
theorem ty_3613 {D : Dt} (h : Ty D) (a : Nat) : 0 ≤ d_I D 3613 a ∧ d_I D 3613 a ≤ 1 := h.1 3613 a
theorem tyI_3613 {D E : Dt} {a : Nat} {v : Int} (e : E = u_I D 3613 a v) (h : Ty D) (hv : 0 ≤ v ∧ v ≤ 1) : Ty E := tyIg e h hv
theorem ty_3614 {D : Dt} (h : Ty D) (a : Nat) : 0 ≤ d_I D 3614 a ∧ d_I D 3614 a ≤ 31 := h.1 3614 a
theorem tyI_3614 {D E : Dt} {a : Nat} {v : Int} (e : E = u_I D 3614 a v) (h : Ty D) (hv : 0 ≤ v ∧ v ≤ 31) : Ty E := tyIg e h hv
theorem ty_3615 {D : Dt} (h : Ty D) (a : Nat) : 0 ≤ d_I D 3615 a ∧ d_I D 3615 a ≤ 91 := h.1 3615 a
theorem tyI_3615 {D E : Dt} {a : Nat} {v : Int} (e : E = u_I D 3615 a v) (h : Ty D) (hv : 0 ≤ v ∧ v ≤ 91) : Ty E := tyIg e h hv
theorem ty_3701 {D : Dt} (h : Ty D) (a : Nat) : 0 ≤ d_I D 3701 a ∧ d_I D 3701 a ≤ 131072 := h.1 3701 a
theorem tyI_3701 {D E : Dt} {a : Nat} {v : Int} (e : E = u_I D 3701 a v) (h : Ty D) (hv : 0 ≤ v ∧ v ≤ 131072) : Ty E := tyIg e h hv
theorem ty_3802 {D : Dt} (h : Ty D) (a : Nat) : 0 ≤ d_I D 3802 a ∧ d_I D 3802 a ≤ 1 := h.1 3802 a
theorem tyI_3802 {D E : Dt} {a : Nat} {v : Int} (e : E = u_I D 3802 a v) (h : Ty D) (hv : 0 ≤ v ∧ v ≤ 1) : Ty E := tyIg e h hv
theorem ty_3803 {D : Dt} (h : Ty D) (a : Nat) : 0 ≤ d_I D 3803 a ∧ d_I D 3803 a ≤ 131072 := h.1 3803 a
theorem tyI_3803 {D E : Dt} {a : Nat} {v : Int} (e : E = u_I D 3803 a v) (h : Ty D) (hv : 0 ≤ v ∧ v ≤ 131072) : Ty E := tyIg e h hv
theorem ty_3804 {D : Dt} (h : Ty D) (a : Nat) : 0 ≤ d_I D 3804 a ∧ d_I D 3804 a ≤ 268435455 := h.1 3804 a
theorem tyI_3804 {D E : Dt} {a : Nat} {v : Int} (e : E = u_I D 3804 a v) (h : Ty D) (hv : 0 ≤ v ∧ v ≤ 268435455) : Ty E := tyIg e h hv
theorem ty_3805 {D : Dt} (h : Ty D) (a : Nat) : 0 ≤ d_I D 3805 a ∧ d_I D 3805 a ≤ 65535 := h.1 3805 a
theorem tyI_3805 {D E : Dt} {a : Nat} {v : Int} (e : E = u_I D 3805 a v) (h : Ty D) (hv : 0 ≤ v ∧ v ≤ 65535) : Ty E := tyIg e h hv
theorem ty_3806 {D : Dt} (h : Ty D) (a : Nat) : 0 ≤ d_I D 3806 a ∧ d_I D 3806 a ≤ 12 := h.1 3806 a
theorem tyI_3806 {D E : Dt} {a : Nat} {v : Int} (e : E = u_I D 3806 a v) (h : Ty D) (hv : 0 ≤ v ∧ v ≤ 12) : Ty E := tyIg e h hv
theorem ty_4002 {D : Dt} (h : Ty D) (a : Nat) : 0 ≤ d_I D 4002 a ∧ d_I D 4002 a ≤ 1 := h.1 4002 a
theorem tyI_4002 {D E : Dt} {a : Nat} {v : Int} (e : E = u_I D 4002 a v) (h : Ty D) (hv : 0 ≤ v ∧ v ≤ 1) : Ty E := tyIg e h hv
theorem ty_4003 {D : Dt} (h : Ty D) (a : Nat) : 0 ≤ d_I D 4003 a ∧ d_I D 4003 a ≤ 131072 := h.1 4003 a
theorem tyI_4003 {D E : Dt} {a : Nat} {v : Int} (e : E = u_I D 4003 a v) (h : Ty D) (hv : 0 ≤ v ∧ v ≤ 131072) : Ty E := tyIg e h hv
theorem ty_4004 {D : Dt} (h : Ty D) (a : Nat) : 0 ≤ d_I D 4004 a ∧ d_I D 4004 a ≤ 131072 := h.1 4004 a
theorem tyI_4004 {D E : Dt} {a : Nat} {v : Int} (e : E = u_I D 4004 a v) (h : Ty D) (hv : 0 ≤ v ∧ v ≤ 131072) : Ty E := tyIg e h hv
theorem ty_4005 {D : Dt} (h : Ty D) (a : Nat) : -1 ≤ d_I D 4005 a ∧ d_I D 4005 a ≤ 131073 := h.1 4005 a
theorem tyI_4005 {D E : Dt} {a : Nat} {v : Int} (e : E = u_I D 4005 a v) (h : Ty D) (hv : -1 ≤ v ∧ v ≤ 131073) : Ty E := tyIg e h hv
theorem ty_4006 {D : Dt} (h : Ty D) (a : Nat) : -2147483648 ≤ d_I D 4006 a ∧ d_I D 4006 a ≤ 2147483647 := h.1 4006 a
theorem tyI_4006 {D E : Dt} {a : Nat} {v : Int} (e : E = u_I D 4006 a v) (h : Ty D) (hv : -2147483648 ≤ v ∧ v ≤ 2147483647) : Ty E := tyIg e h hv
theorem ty_4007 {D : Dt} (h : Ty D) (a : Nat) : 0 ≤ d_I D 4007 a ∧ d_I D 4007 a ≤ 65535 := h.1 4007 a
theorem tyI_4007 {D E : Dt} {a : Nat} {v : Int} (e : E = u_I D 4007 a v) (h : Ty D) (hv : 0 ≤ v ∧ v ≤ 65535) : Ty E := tyIg e h hv
theorem ty_4008 {D : Dt} (h : Ty D) (a : Nat) : 0 ≤ d_I D 4008 a ∧ d_I D 4008 a ≤ 12 := h.1 4008 a
theorem tyI_4008 {D E : Dt} {a : Nat} {v : Int} (e : E = u_I D 4008 a v) (h : Ty D) (hv : 0 ≤ v ∧ v ≤ 12) : Ty E := tyIg e h hv
theorem ty_4303 {D : Dt} (h : Ty D) (a : Nat) : 0 ≤ d_I D 4303 a ∧ d_I D 4303 a ≤ 64 := h.1 4303 a
theorem tyI_4303 {D E : Dt} {a : Nat} {v : Int} (e : E = u_I D 4303 a v) (h : Ty D) (hv : 0 ≤ v ∧ v ≤ 64) : Ty E := tyIg e h hv
theorem ty_4304 {D : Dt} (h : Ty D) (a : Nat) : 0 ≤ d_I D 4304 a ∧ d_I D 4304 a ≤ 64 := h.1 4304 a
theorem tyI_4304 {D E : Dt} {a : Nat} {v : Int} (e : E = u_I D 4304 a v) (h : Ty D) (hv : 0 ≤ v ∧ v ≤ 64) : Ty E := tyIg e h hv
theorem ty_4305 {D : Dt} (h : Ty D) (a : Nat) : 0 ≤ d_I D 4305 a ∧ d_I D 4305 a ≤ 3 := h.1 4305 a
theorem tyI_4305 {D E : Dt} {a : Nat} {v : Int} (e : E = u_I D 4305 a v) (h : Ty D) (hv : 0 ≤ v ∧ v ≤ 3) : Ty E := tyIg e h hv
theorem ty_4306 {D : Dt} (h : Ty D) (a : Nat) : 0 ≤ d_I D 4306 a ∧ d_I D 4306 a ≤ 1 := h.1 4306 a
theorem tyI_4306 {D E : Dt} {a : Nat} {v : Int} (e : E = u_I D 4306 a v) (h : Ty D) (hv : 0 ≤ v ∧ v ≤ 1) : Ty E := tyIg e h hv
theorem ty_4309 {D : Dt} (h : Ty D) (a : Nat) : -9223372036854775808 ≤ d_I D 4309 a ∧ d_I D 4309 a ≤ 9223372036854775807 := h.1 4309 a
theorem tyI_4309 {D E : Dt} {a : Nat} {v : Int} (e : E = u_I D 4309 a v) (h : Ty D) (hv : -9223372036854775808 ≤ v ∧ v ≤ 9223372036854775807) : Ty E := tyIg e h hv
theorem ty_4400 {D : Dt} (h : Ty D) (a : Nat) : 0 ≤ d_I D 4400 a ∧ d_I D 4400 a ≤ 2 := h.1 4400 a
theorem tyI_4400 {D E : Dt} {a : Nat} {v : Int} (e : E = u_I D 4400 a v) (h : Ty D) (hv : 0 ≤ v ∧ v ≤ 2) : Ty E := tyIg e h hv
theorem ty_4401 {D : Dt} (h : Ty D) (a : Nat) : 0 ≤ d_I D 4401 a ∧ d_I D 4401 a ≤ 31 := h.1 4401 a
theorem tyI_4401 {D E : Dt} {a : Nat} {v : Int} (e : E = u_I D 4401 a v) (h : Ty D) (hv : 0 ≤ v ∧ v ≤ 31) : Ty E := tyIg e h hv
theorem ty_4402 {D : Dt} (h : Ty D) (a : Nat) : 0 ≤ d_I D 4402 a ∧ d_I D 4402 a ≤ 1 := h.1 4402 a
theorem tyI_4402 {D E : Dt} {a : Nat} {v : Int} (e : E = u_I D 4402 a v) (h : Ty D) (hv : 0 ≤ v ∧ v ≤ 1) : Ty E := tyIg e h hv
theorem ty_4403 {D : Dt} (h : Ty D) (a : Nat) : 0 ≤ d_I D 4403 a ∧ d_I D 4403 a ≤ 1 := h.1 4403 a
theorem tyI_4403 {D E : Dt} {a : Nat} {v : Int} (e : E = u_I D 4403 a v) (h : Ty D) (hv : 0 ≤ v ∧ v ≤ 1) : Ty E := tyIg e h hv
theorem ty_4404 {D : Dt} (h : Ty D) (a : Nat) : 0 ≤ d_I D 4404 a ∧ d_I D 4404 a ≤ 131072 := h.1 4404 a
theorem tyI_4404 {D E : Dt} {a : Nat} {v : Int} (e : E = u_I D 4404 a v) (h : Ty D) (hv : 0 ≤ v ∧ v ≤ 131072) : Ty E := tyIg e h hv
theorem ty_4405 {D : Dt} (h : Ty D) (a : Nat) : 0 ≤ d_I D 4405 a ∧ d_I D 4405 a ≤ 131077 := h.1 4405 a
theorem tyI_4405 {D E : Dt} {a : Nat} {v : Int} (e : E = u_I D 4405 a v) (h : Ty D) (hv : 0 ≤ v ∧ v ≤ 131077) : Ty E := tyIg e h hv
theorem ty_4406 {D : Dt} (h : Ty D) (a : Nat) : -9223372036854775808 ≤ d_I D 4406 a ∧ d_I D 4406 a ≤ 9223372036854775807 := h.1 4406 a
theorem tyI_4406 {D E : Dt} {a : Nat} {v : Int} (e : E = u_I D 4406 a v) (h : Ty D) (hv : -9223372036854775808 ≤ v ∧ v ≤ 9223372036854775807) : Ty E := tyIg e h hv
theorem ty_4501 {D : Dt} (h : Ty D) (a : Nat) : 0 ≤ d_I D 4501 a ∧ d_I D 4501 a ≤ 131072 := h.1 4501 a
theorem tyI_4501 {D E : Dt} {a : Nat} {v : Int} (e : E = u_I D 4501 a v) (h : Ty D) (hv : 0 ≤ v ∧ v ≤ 131072) : Ty E := tyIg e h hv
theorem ty_4705 {D : Dt} (h : Ty D) (a : Nat) : 0 ≤ d_I D 4705 a ∧ d_I D 4705 a ≤ 1024 := h.1 4705 a
theorem tyI_4705 {D E : Dt} {a : Nat} {v : Int} (e : E = u_I D 4705 a v) (h : Ty D) (hv : 0 ≤ v ∧ v ≤ 1024) : Ty E := tyIg e h hv
theorem ty_4706 {D : Dt} (h : Ty D) (a : Nat) : 0 ≤ d_I D 4706 a ∧ d_I D 4706 a ≤ 64 := h.1 4706 a
theorem tyI_4706 {D E : Dt} {a : Nat} {v : Int} (e : E = u_I D 4706 a v) (h : Ty D) (hv : 0 ≤ v ∧ v ≤ 64) : Ty E := tyIg e h hv
theorem ty_4708 {D : Dt} (h : Ty D) (a : Nat) : 0 ≤ d_I D 4708 a ∧ d_I D 4708 a ≤ 1 := h.1 4708 a
theorem tyI_4708 {D E : Dt} {a : Nat} {v : Int} (e : E = u_I D 4708 a v) (h : Ty D) (hv : 0 ≤ v ∧ v ≤ 1) : Ty E := tyIg e h hv
theorem ty_4805 {D : Dt} (h : Ty D) (a : Nat) : 0 ≤ d_I D 4805 a ∧ d_I D 4805 a ≤ 16384 := h.1 4805 a
theorem tyI_4805 {D E : Dt} {a : Nat} {v : Int} (e : E = u_I D 4805 a v) (h : Ty D) (hv : 0 ≤ v ∧ v ≤ 16384) : Ty E := tyIg e h hv
theorem ty_4901 {D : Dt} (h : Ty D) (a : Nat) : 0 ≤ d_I D 4901 a ∧ d_I D 4901 a ≤ 1024 := h.1 4901 a
theorem tyI_4901 {D E : Dt} {a : Nat} {v : Int} (e : E = u_I D 4901 a v) (h : Ty D) (hv : 0 ≤ v ∧ v ≤ 1024) : Ty E := tyIg e h hv
theorem ty_5005 {D : Dt} (h : Ty D) (a : Nat) : 0 ≤ d_I D 5005 a ∧ d_I D 5005 a ≤ 1 := h.1 5005 a
theorem tyI_5005 {D E : Dt} {a : Nat} {v : Int} (e : E = u_I D 5005 a v) (h : Ty D) (hv : 0 ≤ v ∧ v ≤ 1) : Ty E := tyIg e h hv
theorem ty_5302 {D : Dt} (h : Ty D) (a : Nat) : 0 ≤ d_I D 5302 a ∧ d_I D 5302 a ≤ 8 := h.1 5302 a
theorem tyI_5302 {D E : Dt} {a : Nat} {v : Int} (e : E = u_I D 5302 a v) (h : Ty D) (hv : 0 ≤ v ∧ v ≤ 8) : Ty E := tyIg e h hv
theorem ty_5504 {D : Dt} (h : Ty D) (a : Nat) : 0 ≤ d_I D 5504 a ∧ d_I D 5504 a ≤ 8 := h.1 5504 a
theorem tyI_5504 {D E : Dt} {a : Nat} {v : Int} (e : E = u_I D 5504 a v) (h : Ty D) (hv : 0 ≤ v ∧ v ≤ 8) : Ty E := tyIg e h hv
theorem ty_5619 {D : Dt} (h : Ty D) (a : Nat) : 0 ≤ d_I D 5619 a ∧ d_I D 5619 a ≤ 1 := h.1 5619 a
theorem tyI_5619 {D E : Dt} {a : Nat} {v : Int} (e : E = u_I D 5619 a v) (h : Ty D) (hv : 0 ≤ v ∧ v ≤ 1) : Ty E := tyIg e h hv
theorem ty_5670 {D : Dt} (h : Ty D) (a : Nat) : 0 ≤ d_I D 5670 a ∧ d_I D 5670 a ≤ 1 := h.1 5670 a
theorem tyI_5670 {D E : Dt} {a : Nat} {v : Int} (e : E = u_I D 5670 a v) (h : Ty D) (hv : 0 ≤ v ∧ v ≤ 1) : Ty E := tyIg e h hv
theorem ty_5684 {D : Dt} (h : Ty D) (a : Nat) : 0 ≤ d_I D 5684 a ∧ d_I D 5684 a ≤ 1 := h.1 5684 a
theorem tyI_5684 {D E : Dt} {a : Nat} {v : Int} (e : E = u_I D 5684 a v) (h : Ty D) (hv : 0 ≤ v ∧ v ≤ 1) : Ty E := tyIg e h hv
theorem ty_5702 {D : Dt} (h : Ty D) (a : Nat) : 0 ≤ d_I D 5702 a ∧ d_I D 5702 a ≤ 1 := h.1 5702 a
theorem tyI_5702 {D E : Dt} {a : Nat} {v : Int} (e : E = u_I D 5702 a v) (h : Ty D) (hv : 0 ≤ v ∧ v ≤ 1) : Ty E := tyIg e h hv
theorem ty_5703 {D : Dt} (h : Ty D) (a : Nat) : 0 ≤ d_I D 5703 a ∧ d_I D 5703 a ≤ 16 := h.1 5703 a
theorem tyI_5703 {D E : Dt} {a : Nat} {v : Int} (e : E = u_I D 5703 a v) (h : Ty D) (hv : 0 ≤ v ∧ v ≤ 16) : Ty E := tyIg e h hv
theorem ty_5708 {D : Dt} (h : Ty D) (a : Nat) : 0 ≤ d_I D 5708 a ∧ d_I D 5708 a ≤ 255 := h.1 5708 a
theorem tyI_5708 {D E : Dt} {a : Nat} {v : Int} (e : E = u_I D 5708 a v) (h : Ty D) (hv : 0 ≤ v ∧ v ≤ 255) : Ty E := tyIg e h hv
theorem ty_5709 {D : Dt} (h : Ty D) (a : Nat) : 0 ≤ d_I D 5709 a ∧ d_I D 5709 a ≤ 65535 := h.1 5709 a
theorem tyI_5709 {D E : Dt} {a : Nat} {v : Int} (e : E = u_I D 5709 a v) (h : Ty D) (hv : 0 ≤ v ∧ v ≤ 65535) : Ty E := tyIg e h hv
theorem ty_5710 {D : Dt} (h : Ty D) (a : Nat) : 0 ≤ d_I D 5710 a ∧ d_I D 5710 a ≤ 255 := h.1 5710 a
theorem tyI_5710 {D E : Dt} {a : Nat} {v : Int} (e : E = u_I D 5710 a v) (h : Ty D) (hv : 0 ≤ v ∧ v ≤ 255) : Ty E := tyIg e h hv
theorem ty_5711 {D : Dt} (h : Ty D) (a : Nat) : 0 ≤ d_I D 5711 a ∧ d_I D 5711 a ≤ 1 := h.1 5711 a
theorem tyI_5711 {D E : Dt} {a : Nat} {v : Int} (e : E = u_I D 5711 a v) (h : Ty D) (hv : 0 ≤ v ∧ v ≤ 1) : Ty E := tyIg e h hv
theorem ty_5712 {D : Dt} (h : Ty D) (a : Nat) : 0 ≤ d_I D 5712 a ∧ d_I D 5712 a ≤ 1 := h.1 5712 a
theorem tyI_5712 {D E : Dt} {a : Nat} {v : Int} (e : E = u_I D 5712 a v) (h : Ty D) (hv : 0 ≤ v ∧ v ≤ 1) : Ty E := tyIg e h hv
theorem ty_5717 {D : Dt} (h : Ty D) (a : Nat) : 0 ≤ d_I D 5717 a ∧ d_I D 5717 a ≤ 32 := h.1 5717 a
theorem tyI_5717 {D E : Dt} {a : Nat} {v : Int} (e : E = u_I D 5717 a v) (h : Ty D) (hv : 0 ≤ v ∧ v ≤ 32) : Ty E := tyIg e h hv
theorem ty_5720 {D : Dt} (h : Ty D) (a : Nat) : 0 ≤ d_I D 5720 a ∧ d_I D 5720 a ≤ 32768 := h.1 5720 a
theorem tyI_5720 {D E : Dt} {a : Nat} {v : Int} (e : E = u_I D 5720 a v) (h : Ty D) (hv : 0 ≤ v ∧ v ≤ 32768) : Ty E := tyIg e h hv
theorem ty_5721 {D : Dt} (h : Ty D) (a : Nat) : 0 ≤ d_I D 5721 a ∧ d_I D 5721 a ≤ 1 := h.1 5721 a
theorem tyI_5721 {D E : Dt} {a : Nat} {v : Int} (e : E = u_I D 5721 a v) (h : Ty D) (hv : 0 ≤ v ∧ v ≤ 1) : Ty E := tyIg e h hv
theorem ty_5723 {D : Dt} (h : Ty D) (a : Nat) : 0 ≤ d_I D 5723 a ∧ d_I D 5723 a ≤ 16500 := h.1 5723 a
theorem tyI_5723 {D E : Dt} {a : Nat} {v : Int} (e : E = u_I D 5723 a v) (h : Ty D) (hv : 0 ≤ v ∧ v ≤ 16500) : Ty E := tyIg e h hv
theorem ty_5728 {D : Dt} (h : Ty D) (a : Nat) : 0 ≤ d_I D 5728 a ∧ d_I D 5728 a ≤ 256 := h.1 5728 a
theorem tyI_5728 {D E : Dt} {a : Nat} {v : Int} (e : E = u_I D 5728 a v) (h : Ty D) (hv : 0 ≤ v ∧ v ≤ 256) : Ty E := tyIg e h hv
theorem ty_5735 {D : Dt} (h : Ty D) (a : Nat) : 0 ≤ d_I D 5735 a ∧ d_I D 5735 a ≤ 65535 := h.1 5735 a
theorem tyI_5735 {D E : Dt} {a : Nat} {v : Int} (e : E = u_I D 5735 a v) (h : Ty D) (hv : 0 ≤ v ∧ v ≤ 65535) : Ty E := tyIg e h hv
theorem ty_5801 {D : Dt} (h : Ty D) (a : Nat) : 0 ≤ d_I D 5801 a ∧ d_I D 5801 a ≤ 2147483647 := h.1 5801 a
theorem tyI_5801 {D E : Dt} {a : Nat} {v : Int} (e : E = u_I D 5801 a v) (h : Ty D) (hv : 0 ≤ v ∧ v ≤ 2147483647) : Ty E := tyIg e h hv
theorem ty_5802 {D : Dt} (h : Ty D) (a : Nat) : 0 ≤ d_I D 5802 a ∧ d_I D 5802 a ≤ 2147483647 := h.1 5802 a
theorem tyI_5802 {D E : Dt} {a : Nat} {v : Int} (e : E = u_I D 5802 a v) (h : Ty D) (hv : 0 ≤ v ∧ v ≤ 2147483647) : Ty E := tyIg e h hv
theorem ty_5803 {D : Dt} (h : Ty D) (a : Nat) : 0 ≤ d_I D 5803 a ∧ d_I D 5803 a ≤ 16 := h.1 5803 a
theorem tyI_5803 {D E : Dt} {a : Nat} {v : Int} (e : E = u_I D 5803 a v) (h : Ty D) (hv : 0 ≤ v ∧ v ≤ 16) : Ty E := tyIg e h hv
theorem ty_5805 {D : Dt} (h : Ty D) (a : Nat) : 0 ≤ d_I D 5805 a ∧ d_I D 5805 a ≤ 1 := h.1 5805 a
theorem tyI_5805 {D E : Dt} {a : Nat} {v : Int} (e : E = u_I D 5805 a v) (h : Ty D) (hv : 0 ≤ v ∧ v ≤ 1) : Ty E := tyIg e h hv
theorem ty_5806 {D : Dt} (h : Ty D) (a : Nat) : 0 ≤ d_I D 5806 a ∧ d_I D 5806 a ≤ 1 := h.1 5806 a
theorem tyI_5806 {D E : Dt} {a : Nat} {v : Int} (e : E = u_I D 5806 a v) (h : Ty D) (hv : 0 ≤ v ∧ v ≤ 1) : Ty E := tyIg e h hv
theorem ty_5807 {D : Dt} (h : Ty D) (a : Nat) : 0 ≤ d_I D 5807 a ∧ d_I D 5807 a ≤ 18 := h.1 5807 a
theorem tyI_5807 {D E : Dt} {a : Nat} {v : Int} (e : E = u_I D 5807 a v) (h : Ty D) (hv : 0 ≤ v ∧ v ≤ 18) : Ty E := tyIg e h hv
theorem ty_5808 {D : Dt} (h : Ty D) (a : Nat) : -1 ≤ d_I D 5808 a ∧ d_I D 5808 a ≤ 1024 := h.1 5808 a
theorem tyI_5808 {D E : Dt} {a : Nat} {v : Int} (e : E = u_I D 5808 a v) (h : Ty D) (hv : -1 ≤ v ∧ v ≤ 1024) : Ty E := tyIg e h hv
theorem ty_5810 {D : Dt} (h : Ty D) (a : Nat) : 0 ≤ d_I D 5810 a ∧ d_I D 5810 a ≤ 1024 := h.1 5810 a
theorem tyI_5810 {D E : Dt} {a : Nat} {v : Int} (e : E = u_I D 5810 a v) (h : Ty D) (hv : 0 ≤ v ∧ v ≤ 1024) : Ty E := tyIg e h hv
theorem ty_5811 {D : Dt} (h : Ty D) (a : Nat) : 0 ≤ d_I D 5811 a ∧ d_I D 5811 a ≤ 8 := h.1 5811 a
theorem tyI_5811 {D E : Dt} {a : Nat} {v : Int} (e : E = u_I D 5811 a v) (h : Ty D) (hv : 0 ≤ v ∧ v ≤ 8) : Ty E := tyIg e h hv
theorem ty_5814 {D : Dt} (h : Ty D) (a : Nat) : 0 ≤ d_I D 5814 a ∧ d_I D 5814 a ≤ 16 := h.1 5814 a
theorem tyI_5814 {D E : Dt} {a : Nat} {v : Int} (e : E = u_I D 5814 a v) (h : Ty D) (hv : 0 ≤ v ∧ v ≤ 16) : Ty E := tyIg e h hv
theorem ty_5816 {D : Dt} (h : Ty D) (a : Nat) : 0 ≤ d_I D 5816 a ∧ d_I D 5816 a ≤ 16 := h.1 5816 a
theorem tyI_5816 {D E : Dt} {a : Nat} {v : Int} (e : E = u_I D 5816 a v) (h : Ty D) (hv : 0 ≤ v ∧ v ≤ 16) : Ty E := tyIg e h hv
theorem ty_5820 {D : Dt} (h : Ty D) (a : Nat) : 0 ≤ d_I D 5820 a ∧ d_I D 5820 a ≤ 32768 := h.1 5820 a
theorem tyI_5820 {D E : Dt} {a : Nat} {v : Int} (e : E = u_I D 5820 a v) (h : Ty D) (hv : 0 ≤ v ∧ v ≤ 32768) : Ty E := tyIg e h hv
theorem ty_5821 {D : Dt} (h : Ty D) (a : Nat) : 0 ≤ d_I D 5821 a ∧ d_I D 5821 a ≤ 1 := h.1 5821 a
theorem tyI_5821 {D E : Dt} {a : Nat} {v : Int} (e : E = u_I D 5821 a v) (h : Ty D) (hv : 0 ≤ v ∧ v ≤ 1) : Ty E := tyIg e h hv
theorem ty_5829 {D : Dt} (h : Ty D) (a : Nat) : 0 ≤ d_I D 5829 a ∧ d_I D 5829 a ≤ 32768 := h.1 5829 a
theorem tyI_5829 {D E : Dt} {a : Nat} {v : Int} (e : E = u_I D 5829 a v) (h : Ty D) (hv : 0 ≤ v ∧ v ≤ 32768) : Ty E := tyIg e h hv
theorem ty_5830 {D : Dt} (h : Ty D) (a : Nat) : 0 ≤ d_I D 5830 a ∧ d_I D 5830 a ≤ 32768 := h.1 5830 a
theorem tyI_5830 {D E : Dt} {a : Nat} {v : Int} (e : E = u_I D 5830 a v) (h : Ty D) (hv : 0 ≤ v ∧ v ≤ 32768) : Ty E := tyIg e h hv
theorem ty_5831 {D : Dt} (h : Ty D) (a : Nat) : 0 ≤ d_I D 5831 a ∧ d_I D 5831 a ≤ 32768 := h.1 5831 a
theorem tyI_5831 {D E : Dt} {a : Nat} {v : Int} (e : E = u_I D 5831 a v) (h : Ty D) (hv : 0 ≤ v ∧ v ≤ 32768) : Ty E := tyIg e h hv
theorem ty_5832 {D : Dt} (h : Ty D) (a : Nat) : 0 ≤ d_I D 5832 a ∧ d_I D 5832 a ≤ 32768 := h.1 5832 a
theorem tyI_5832 {D E : Dt} {a : Nat} {v : Int} (e : E = u_I D 5832 a v) (h : Ty D) (hv : 0 ≤ v ∧ v ≤ 32768) : Ty E := tyIg e h hv
theorem ty_5833 {D : Dt} (h : Ty D) (a : Nat) : 0 ≤ d_I D 5833 a ∧ d_I D 5833 a ≤ 32768 := h.1 5833 a
theorem tyI_5833 {D E : Dt} {a : Nat} {v : Int} (e : E = u_I D 5833 a v) (h : Ty D) (hv : 0 ≤ v ∧ v ≤ 32768) : Ty E := tyIg e h hv
theorem ty_5834 {D : Dt} (h : Ty D) (a : Nat) : 0 ≤ d_I D 5834 a ∧ d_I D 5834 a ≤ 32768 := h.1 5834 a
theorem tyI_5834 {D E : Dt} {a : Nat} {v : Int} (e : E = u_I D 5834 a v) (h : Ty D) (hv : 0 ≤ v ∧ v ≤ 32768) : Ty E := tyIg e h hv
theorem ty_5835 {D : Dt} (h : Ty D) (a : Nat) : 0 ≤ d_I D 5835 a ∧ d_I D 5835 a ≤ 32768 := h.1 5835 a
theorem tyI_5835 {D E : Dt} {a : Nat} {v : Int} (e : E = u_I D 5835 a v) (h : Ty D) (hv : 0 ≤ v ∧ v ≤ 32768) : Ty E := tyIg e h hv
theorem ty_5836 {D : Dt} (h : Ty D) (a : Nat) : 0 ≤ d_I D 5836 a ∧ d_I D 5836 a ≤ 32768 := h.1 5836 a
theorem tyI_5836 {D E : Dt} {a : Nat} {v : Int} (e : E = u_I D 5836 a v) (h : Ty D) (hv : 0 ≤ v ∧ v ≤ 32768) : Ty E := tyIg e h hv
theorem ty_5837 {D : Dt} (h : Ty D) (a : Nat) : 0 ≤ d_I D 5837 a ∧ d_I D 5837 a ≤ 32768 := h.1 5837 a
theorem tyI_5837 {D E : Dt} {a : Nat} {v : Int} (e : E = u_I D 5837 a v) (h : Ty D) (hv : 0 ≤ v ∧ v ≤ 32768) : Ty E := tyIg e h hv
theorem ty_5838 {D : Dt} (h : Ty D) (a : Nat) : 0 ≤ d_I D 5838 a ∧ d_I D 5838 a ≤ 32768 := h.1 5838 a
theorem tyI_5838 {D E : Dt} {a : Nat} {v : Int} (e : E = u_I D 5838 a v) (h : Ty D) (hv : 0 ≤ v ∧ v ≤ 32768) : Ty E := tyIg e h hv
theorem ty_5839 {D : Dt} (h : Ty D) (a : Nat) : 0 ≤ d_I D 5839 a ∧ d_I D 5839 a ≤ 1 := h.1 5839 a
theorem tyI_5839 {D E : Dt} {a : Nat} {v : Int} (e : E = u_I D 5839 a v) (h : Ty D) (hv : 0 ≤ v ∧ v ≤ 1) : Ty E := tyIg e h hv
theorem ty_5900 {D : Dt} (h : Ty D) (a : Nat) : 0 ≤ d_I D 5900 a ∧ d_I D 5900 a ≤ 2 := h.1 5900 a
theorem tyI_5900 {D E : Dt} {a : Nat} {v : Int} (e : E = u_I D 5900 a v) (h : Ty D) (hv : 0 ≤ v ∧ v ≤ 2) : Ty E := tyIg e h hv
theorem ty_5901 {D : Dt} (h : Ty D) (a : Nat) : 0 ≤ d_I D 5901 a ∧ d_I D 5901 a ≤ 1 := h.1 5901 a
theorem tyI_5901 {D E : Dt} {a : Nat} {v : Int} (e : E = u_I D 5901 a v) (h : Ty D) (hv : 0 ≤ v ∧ v ≤ 1) : Ty E := tyIg e h hv
theorem ty_5902 {D : Dt} (h : Ty D) (a : Nat) : 0 ≤ d_I D 5902 a ∧ d_I D 5902 a ≤ 32767 := h.1 5902 a
theorem tyI_5902 {D E : Dt} {a : Nat} {v : Int} (e : E = u_I D 5902 a v) (h : Ty D) (hv : 0 ≤ v ∧ v ≤ 32767) : Ty E := tyIg e h hv
theorem ty_5903 {D : Dt} (h : Ty D) (a : Nat) : 0 ≤ d_I D 5903 a ∧ d_I D 5903 a ≤ 32767 := h.1 5903 a
theorem tyI_5903 {D E : Dt} {a : Nat} {v : Int} (e : E = u_I D 5903 a v) (h : Ty D) (hv : 0 ≤ v ∧ v ≤ 32767) : Ty E := tyIg e h hv
theorem ty_5904 {D : Dt} (h : Ty D) (a : Nat) : 0 ≤ d_I D 5904 a ∧ d_I D 5904 a ≤ 32767 := h.1 5904 a
theorem tyI_5904 {D E : Dt} {a : Nat} {v : Int} (e : E = u_I D 5904 a v) (h : Ty D) (hv : 0 ≤ v ∧ v ≤ 32767) : Ty E := tyIg e h hv
theorem ty_5905 {D : Dt} (h : Ty D) (a : Nat) : 0 ≤ d_I D 5905 a ∧ d_I D 5905 a ≤ 32767 := h.1 5905 a
theorem tyI_5905 {D E : Dt} {a : Nat} {v : Int} (e : E = u_I D 5905 a v) (h : Ty D) (hv : 0 ≤ v ∧ v ≤ 32767) : Ty E := tyIg e h hv
theorem ty_5906 {D : Dt} (h : Ty D) (a : Nat) : 0 ≤ d_I D 5906 a ∧ d_I D 5906 a ≤ 32767 := h.1 5906 a
theorem tyI_5906 {D E : Dt} {a : Nat} {v : Int} (e : E = u_I D 5906 a v) (h : Ty D) (hv : 0 ≤ v ∧ v ≤ 32767) : Ty E := tyIg e h hv
theorem ty_5907 {D : Dt} (h : Ty D) (a : Nat) : 0 ≤ d_I D 5907 a ∧ d_I D 5907 a ≤ 32767 := h.1 5907 a
theorem tyI_5907 {D E : Dt} {a : Nat} {v : Int} (e : E = u_I D 5907 a v) (h : Ty D) (hv : 0 ≤ v ∧ v ≤ 32767) : Ty E := tyIg e h hv
theorem ty_5908 {D : Dt} (h : Ty D) (a : Nat) : 0 ≤ d_I D 5908 a ∧ d_I D 5908 a ≤ 32767 := h.1 5908 a
theorem tyI_5908 {D E : Dt} {a : Nat} {v : Int} (e : E = u_I D 5908 a v) (h : Ty D) (hv : 0 ≤ v ∧ v ≤ 32767) : Ty E := tyIg e h hv
theorem ty_5909 {D : Dt} (h : Ty D) (a : Nat) : 0 ≤ d_I D 5909 a ∧ d_I D 5909 a ≤ 32767 := h.1 5909 a
theorem tyI_5909 {D E : Dt} {a : Nat} {v : Int} (e : E = u_I D 5909 a v) (h : Ty D) (hv : 0 ≤ v ∧ v ≤ 32767) : Ty E := tyIg e h hv
theorem ty_5910 {D : Dt} (h : Ty D) (a : Nat) : 0 ≤ d_I D 5910 a ∧ d_I D 5910 a ≤ 32767 := h.1 5910 a
theorem tyI_5910 {D E : Dt} {a : Nat} {v : Int} (e : E = u_I D 5910 a v) (h : Ty D) (hv : 0 ≤ v ∧ v ≤ 32767) : Ty E := tyIg e h hv
theorem ty_5911 {D : Dt} (h : Ty D) (a : Nat) : 0 ≤ d_I D 5911 a ∧ d_I D 5911 a ≤ 32767 := h.1 5911 a
theorem tyI_5911 {D E : Dt} {a : Nat} {v : Int} (e : E = u_I D 5911 a v) (h : Ty D) (hv : 0 ≤ v ∧ v ≤ 32767) : Ty E := tyIg e h hv
theorem ty_5912 {D : Dt} (h : Ty D) (a : Nat) : 0 ≤ d_I D 5912 a ∧ d_I D 5912 a ≤ 16 := h.1 5912 a
theorem tyI_5912 {D E : Dt} {a : Nat} {v : Int} (e : E = u_I D 5912 a v) (h : Ty D) (hv : 0 ≤ v ∧ v ≤ 16) : Ty E := tyIg e h hv
theorem ty_5920 {D : Dt} (h : Ty D) (a : Nat) : 0 ≤ d_I D 5920 a ∧ d_I D 5920 a ≤ 65536 := h.1 5920 a
theorem tyI_5920 {D E : Dt} {a : Nat} {v : Int} (e : E = u_I D 5920 a v) (h : Ty D) (hv : 0 ≤ v ∧ v ≤ 65536) : Ty E := tyIg e h hv
theorem ty_5921 {D : Dt} (h : Ty D) (a : Nat) : 0 ≤ d_I D 5921 a ∧ d_I D 5921 a ≤ 65536 := h.1 5921 a
theorem tyI_5921 {D E : Dt} {a : Nat} {v : Int} (e : E = u_I D 5921 a v) (h : Ty D) (hv : 0 ≤ v ∧ v ≤ 65536) : Ty E := tyIg e h hv
theorem ty_5922 {D : Dt} (h : Ty D) (a : Nat) : 0 ≤ d_I D 5922 a ∧ d_I D 5922 a ≤ 65536 := h.1 5922 a
theorem tyI_5922 {D E : Dt} {a : Nat} {v : Int} (e : E = u_I D 5922 a v) (h : Ty D) (hv : 0 ≤ v ∧ v ≤ 65536) : Ty E := tyIg e h hv
theorem ty_5923 {D : Dt} (h : Ty D) (a : Nat) : 0 ≤ d_I D 5923 a ∧ d_I D 5923 a ≤ 65536 := h.1 5923 a
theorem tyI_5923 {D E : Dt} {a : Nat} {v : Int} (e : E = u_I D 5923 a v) (h : Ty D) (hv : 0 ≤ v ∧ v ≤ 65536) : Ty E := tyIg e h hv
theorem ty_6006 {D : Dt} (h : Ty D) (a : Nat) : 0 ≤ d_I D 6006 a ∧ d_I D 6006 a ≤ 1 := h.1 6006 a
theorem tyI_6006 {D E : Dt} {a : Nat} {v : Int} (e : E = u_I D 6006 a v) (h : Ty D) (hv : 0 ≤ v ∧ v ≤ 1) : Ty E := tyIg e h hv
theorem ty_6007 {D : Dt} (h : Ty D) (a : Nat) : 0 ≤ d_I D 6007 a ∧ d_I D 6007 a ≤ 1 := h.1 6007 a
theorem tyI_6007 {D E : Dt} {a : Nat} {v : Int} (e : E = u_I D 6007 a v) (h : Ty D) (hv : 0 ≤ v ∧ v ≤ 1) : Ty E := tyIg e h hv
theorem ty_6103 {D : Dt} (h : Ty D) (a : Nat) : 0 ≤ d_I D 6103 a ∧ d_I D 6103 a ≤ 64 := h.1 6103 a
theorem tyI_6103 {D E : Dt} {a : Nat} {v : Int} (e : E = u_I D 6103 a v) (h : Ty D) (hv : 0 ≤ v ∧ v ≤ 64) : Ty E := tyIg e h hv
theorem ty_6104 {D : Dt} (h : Ty D) (a : Nat) : 0 ≤ d_I D 6104 a ∧ d_I D 6104 a ≤ 64 := h.1 6104 a
theorem tyI_6104 {D E : Dt} {a : Nat} {v : Int} (e : E = u_I D 6104 a v) (h : Ty D) (hv : 0 ≤ v ∧ v ≤ 64) : Ty E := tyIg e h hv
theorem ty_6105 {D : Dt} (h : Ty D) (a : Nat) : 0 ≤ d_I D 6105 a ∧ d_I D 6105 a ≤ 3 := h.1 6105 a
theorem tyI_6105 {D E : Dt} {a : Nat} {v : Int} (e : E = u_I D 6105 a v) (h : Ty D) (hv : 0 ≤ v ∧ v ≤ 3) : Ty E := tyIg e h hv
theorem ty_6106 {D : Dt} (h : Ty D) (a : Nat) : 0 ≤ d_I D 6106 a ∧ d_I D 6106 a ≤ 63 := h.1 6106 a
theorem tyI_6106 {D E : Dt} {a : Nat} {v : Int} (e : E = u_I D 6106 a v) (h : Ty D) (hv : 0 ≤ v ∧ v ≤ 63) : Ty E := tyIg e h hv
theorem ty_6109 {D : Dt} (h : Ty D) (a : Nat) : 0 ≤ d_I D 6109 a ∧ d_I D 6109 a ≤ 1 := h.1 6109 a
theorem tyI_6109 {D E : Dt} {a : Nat} {v : Int} (e : E = u_I D 6109 a v) (h : Ty D) (hv : 0 ≤ v ∧ v ≤ 1) : Ty E := tyIg e h hv
theorem ty_6110 {D : Dt} (h : Ty D) (a : Nat) : 0 ≤ d_I D 6110 a ∧ d_I D 6110 a ≤ 1 := h.1 6110 a
theorem tyI_6110 {D E : Dt} {a : Nat} {v : Int} (e : E = u_I D 6110 a v) (h : Ty D) (hv : 0 ≤ v ∧ v ≤ 1) : Ty E := tyIg e h hv
theorem ty_6111 {D : Dt} (h : Ty D) (a : Nat) : 0 ≤ d_I D 6111 a ∧ d_I D 6111 a ≤ 31 := h.1 6111 a
theorem tyI_6111 {D E : Dt} {a : Nat} {v : Int} (e : E = u_I D 6111 a v) (h : Ty D) (hv : 0 ≤ v ∧ v ≤ 31) : Ty E := tyIg e h hv
theorem ty_6112 {D : Dt} (h : Ty D) (a : Nat) : 0 ≤ d_I D 6112 a ∧ d_I D 6112 a ≤ 91 := h.1 6112 a
theorem tyI_6112 {D E : Dt} {a : Nat} {v : Int} (e : E = u_I D 6112 a v) (h : Ty D) (hv : 0 ≤ v ∧ v ≤ 91) : Ty E := tyIg e h hv
theorem ty_6116 {D : Dt} (h : Ty D) (a : Nat) : 0 ≤ d_I D 6116 a ∧ d_I D 6116 a ≤ 91 := h.1 6116 a
theorem tyI_6116 {D E : Dt} {a : Nat} {v : Int} (e : E = u_I D 6116 a v) (h : Ty D) (hv : 0 ≤ v ∧ v ≤ 91) : Ty E := tyIg e h hv
theorem ty_6119 {D : Dt} (h : Ty D) (a : Nat) : 0 ≤ d_I D 6119 a ∧ d_I D 6119 a ≤ 1 := h.1 6119 a
theorem tyI_6119 {D E : Dt} {a : Nat} {v : Int} (e : E = u_I D 6119 a v) (h : Ty D) (hv : 0 ≤ v ∧ v ≤ 1) : Ty E := tyIg e h hv
theorem ty_6125 {D : Dt} (h : Ty D) (a : Nat) : 0 ≤ d_I D 6125 a ∧ d_I D 6125 a ≤ 30 := h.1 6125 a
theorem tyI_6125 {D E : Dt} {a : Nat} {v : Int} (e : E = u_I D 6125 a v) (h : Ty D) (hv : 0 ≤ v ∧ v ≤ 30) : Ty E := tyIg e h hv
theorem ty_6126 {D : Dt} (h : Ty D) (a : Nat) : 0 ≤ d_I D 6126 a ∧ d_I D 6126 a ≤ 1 := h.1 6126 a
theorem tyI_6126 {D E : Dt} {a : Nat} {v : Int} (e : E = u_I D 6126 a v) (h : Ty D) (hv : 0 ≤ v ∧ v ≤ 1) : Ty E := tyIg e h hv
theorem ty_6127 {D : Dt} (h : Ty D) (a : Nat) : 0 ≤ d_I D 6127 a ∧ d_I D 6127 a ≤ 91 := h.1 6127 a
theorem tyI_6127 {D E : Dt} {a : Nat} {v : Int} (e : E = u_I D 6127 a v) (h : Ty D) (hv : 0 ≤ v ∧ v ≤ 91) : Ty E := tyIg e h hv
theorem ty_6130 {D : Dt} (h : Ty D) (a : Nat) : 0 ≤ d_I D 6130 a ∧ d_I D 6130 a ≤ 65536 := h.1 6130 a
theorem tyI_6130 {D E : Dt} {a : Nat} {v : Int} (e : E = u_I D 6130 a v) (h : Ty D) (hv : 0 ≤ v ∧ v ≤ 65536) : Ty E := tyIg e h hv
theorem ty_6132 {D : Dt} (h : Ty D) (a : Nat) : 0 ≤ d_I D 6132 a ∧ d_I D 6132 a ≤ 65536 := h.1 6132 a
theorem tyI_6132 {D E : Dt} {a : Nat} {v : Int} (e : E = u_I D 6132 a v) (h : Ty D) (hv : 0 ≤ v ∧ v ≤ 65536) : Ty E := tyIg e h hv
theorem ty_6133 {D : Dt} (h : Ty D) (a : Nat) : 0 ≤ d_I D 6133 a ∧ d_I D 6133 a ≤ 268435455 := h.1 6133 a
theorem tyI_6133 {D E : Dt} {a : Nat} {v : Int} (e : E = u_I D 6133 a v) (h : Ty D) (hv : 0 ≤ v ∧ v ≤ 268435455) : Ty E := tyIg e h hv
theorem ty_6134 {D : Dt} (h : Ty D) (a : Nat) : 0 ≤ d_I D 6134 a ∧ d_I D 6134 a ≤ 1 := h.1 6134 a
theorem tyI_6134 {D E : Dt} {a : Nat} {v : Int} (e : E = u_I D 6134 a v) (h : Ty D) (hv : 0 ≤ v ∧ v ≤ 1) : Ty E := tyIg e h hv
theorem ty_6135 {D : Dt} (h : Ty D) (a : Nat) : 0 ≤ d_I D 6135 a ∧ d_I D 6135 a ≤ 65535 := h.1 6135 a
theorem tyI_6135 {D E : Dt} {a : Nat} {v : Int} (e : E = u_I D 6135 a v) (h : Ty D) (hv : 0 ≤ v ∧ v ≤ 65535) : Ty E := tyIg e h hv
theorem ty_6136 {D : Dt} (h : Ty D) (a : Nat) : 0 ≤ d_I D 6136 a ∧ d_I D 6136 a ≤ 12 := h.1 6136 a
theorem tyI_6136 {D E : Dt} {a : Nat} {v : Int} (e : E = u_I D 6136 a v) (h : Ty D) (hv : 0 ≤ v ∧ v ≤ 12) : Ty E := tyIg e h hv
theorem ty_6137 {D : Dt} (h : Ty D) (a : Nat) : 0 ≤ d_I D 6137 a ∧ d_I D 6137 a ≤ 65536 := h.1 6137 a
theorem tyI_6137 {D E : Dt} {a : Nat} {v : Int} (e : E = u_I D 6137 a v) (h : Ty D) (hv : 0 ≤ v ∧ v ≤ 65536) : Ty E := tyIg e h hv
theorem ty_6138 {D : Dt} (h : Ty D) (a : Nat) : 0 ≤ d_I D 6138 a ∧ d_I D 6138 a ≤ 65536 := h.1 6138 a
theorem tyI_6138 {D E : Dt} {a : Nat} {v : Int} (e : E = u_I D 6138 a v) (h : Ty D) (hv : 0 ≤ v ∧ v ≤ 65536) : Ty E := tyIg e h hv
theorem ty_6139 {D : Dt} (h : Ty D) (a : Nat) : 0 ≤ d_I D 6139 a ∧ d_I D 6139 a ≤ 65537 := h.1 6139 a
theorem tyI_6139 {D E : Dt} {a : Nat} {v : Int} (e : E = u_I D 6139 a v) (h : Ty D) (hv : 0 ≤ v ∧ v ≤ 65537) : Ty E := tyIg e h hv
theorem ty_6140 {D : Dt} (h : Ty D) (a : Nat) : 0 ≤ d_I D 6140 a ∧ d_I D 6140 a ≤ 255 := h.1 6140 a
theorem tyI_6140 {D E : Dt} {a : Nat} {v : Int} (e : E = u_I D 6140 a v) (h : Ty D) (hv : 0 ≤ v ∧ v ≤ 255) : Ty E := tyIg e h hv
theorem ty_6206 {D : Dt} (h : Ty D) (a : Nat) : 0 ≤ d_I D 6206 a ∧ d_I D 6206 a ≤ 65536 := h.1 6206 a
theorem tyI_6206 {D E : Dt} {a : Nat} {v : Int} (e : E = u_I D 6206 a v) (h : Ty D) (hv : 0 ≤ v ∧ v ≤ 65536) : Ty E := tyIg e h hv
theorem ty_6218 {D : Dt} (h : Ty D) (a : Nat) : 0 ≤ d_I D 6218 a ∧ d_I D 6218 a ≤ 1 := h.1 6218 a
theorem tyI_6218 {D E : Dt} {a : Nat} {v : Int} (e : E = u_I D 6218 a v) (h : Ty D) (hv : 0 ≤ v ∧ v ≤ 1) : Ty E := tyIg e h hv
theorem ty_6221 {D : Dt} (h : Ty D) (a : Nat) : 0 ≤ d_I D 6221 a ∧ d_I D 6221 a ≤ 1 := h.1 6221 a
theorem tyI_6221 {D E : Dt} {a : Nat} {v : Int} (e : E = u_I D 6221 a v) (h : Ty D) (hv : 0 ≤ v ∧ v ≤ 1) : Ty E := tyIg e h hv
theorem ty_6222 {D : Dt} (h : Ty D) (a : Nat) : 0 ≤ d_I D 6222 a ∧ d_I D 6222 a ≤ 65536 := h.1 6222 a
theorem tyI_6222 {D E : Dt} {a : Nat} {v : Int} (e : E = u_I D 6222 a v) (h : Ty D) (hv : 0 ≤ v ∧ v ≤ 65536) : Ty E := tyIg e h hv
theorem ty_6223 {D : Dt} (h : Ty D) (a : Nat) : 0 ≤ d_I D 6223 a ∧ d_I D 6223 a ≤ 65536 := h.1 6223 a
theorem tyI_6223 {D E : Dt} {a : Nat} {v : Int} (e : E = u_I D 6223 a v) (h : Ty D) (hv : 0 ≤ v ∧ v ≤ 65536) : Ty E := tyIg e h hv
theorem ty_6224 {D : Dt} (h : Ty D) (a : Nat) : 0 ≤ d_I D 6224 a ∧ d_I D 6224 a ≤ 8 := h.1 6224 a
theorem tyI_6224 {D E : Dt} {a : Nat} {v : Int} (e : E = u_I D 6224 a v) (h : Ty D) (hv : 0 ≤ v ∧ v ≤ 8) : Ty E := tyIg e h hv
theorem ty_6225 {D : Dt} (h : Ty D) (a : Nat) : 0 ≤ d_I D 6225 a ∧ d_I D 6225 a ≤ 1 := h.1 6225 a
theorem tyI_6225 {D E : Dt} {a : Nat} {v : Int} (e : E = u_I D 6225 a v) (h : Ty D) (hv : 0 ≤ v ∧ v ≤ 1) : Ty E := tyIg e h hv
theorem ty_6301 {D : Dt} (h : Ty D) (a : Nat) : 0 ≤ d_I D 6301 a ∧ d_I D 6301 a ≤ 1 := h.1 6301 a
theorem tyI_6301 {D E : Dt} {a : Nat} {v : Int} (e : E = u_I D 6301 a v) (h : Ty D) (hv : 0 ≤ v ∧ v ≤ 1) : Ty E := tyIg e h hv
theorem ty_6302 {D : Dt} (h : Ty D) (a : Nat) : 0 ≤ d_I D 6302 a ∧ d_I D 6302 a ≤ 32767 := h.1 6302 a
theorem tyI_6302 {D E : Dt} {a : Nat} {v : Int} (e : E = u_I D 6302 a v) (h : Ty D) (hv : 0 ≤ v ∧ v ≤ 32767) : Ty E := tyIg e h hv
theorem ty_6303 {D : Dt} (h : Ty D) (a : Nat) : 0 ≤ d_I D 6303 a ∧ d_I D 6303 a ≤ 32767 := h.1 6303 a
theorem tyI_6303 {D E : Dt} {a : Nat} {v : Int} (e : E = u_I D 6303 a v) (h : Ty D) (hv : 0 ≤ v ∧ v ≤ 32767) : Ty E := tyIg e h hv
theorem ty_6304 {D : Dt} (h : Ty D) (a : Nat) : 0 ≤ d_I D 6304 a ∧ d_I D 6304 a ≤ 32767 := h.1 6304 a
theorem tyI_6304 {D E : Dt} {a : Nat} {v : Int} (e : E = u_I D 6304 a v) (h : Ty D) (hv : 0 ≤ v ∧ v ≤ 32767) : Ty E := tyIg e h hv
theorem ty_6305 {D : Dt} (h : Ty D) (a : Nat) : 0 ≤ d_I D 6305 a ∧ d_I D 6305 a ≤ 32767 := h.1 6305 a
theorem tyI_6305 {D E : Dt} {a : Nat} {v : Int} (e : E = u_I D 6305 a v) (h : Ty D) (hv : 0 ≤ v ∧ v ≤ 32767) : Ty E := tyIg e h hv
theorem ty_6306 {D : Dt} (h : Ty D) (a : Nat) : 0 ≤ d_I D 6306 a ∧ d_I D 6306 a ≤ 16 := h.1 6306 a
theorem tyI_6306 {D E : Dt} {a : Nat} {v : Int} (e : E = u_I D 6306 a v) (h : Ty D) (hv : 0 ≤ v ∧ v ≤ 16) : Ty E := tyIg e h hv
theorem ty_6312 {D : Dt} (h : Ty D) (a : Nat) : 0 ≤ d_I D 6312 a ∧ d_I D 6312 a ≤ 255 := h.1 6312 a
theorem tyI_6312 {D E : Dt} {a : Nat} {v : Int} (e : E = u_I D 6312 a v) (h : Ty D) (hv : 0 ≤ v ∧ v ≤ 255) : Ty E := tyIg e h hv
theorem ty_6313 {D : Dt} (h : Ty D) (a : Nat) : 0 ≤ d_I D 6313 a ∧ d_I D 6313 a ≤ 4 := h.1 6313 a
theorem tyI_6313 {D E : Dt} {a : Nat} {v : Int} (e : E = u_I D 6313 a v) (h : Ty D) (hv : 0 ≤ v ∧ v ≤ 4) : Ty E := tyIg e h hv
theorem ty_6314 {D : Dt} (h : Ty D) (a : Nat) : 0 ≤ d_I D 6314 a ∧ d_I D 6314 a ≤ 32 := h.1 6314 a
theorem tyI_6314 {D E : Dt} {a : Nat} {v : Int} (e : E = u_I D 6314 a v) (h : Ty D) (hv : 0 ≤ v ∧ v ≤ 32) : Ty E := tyIg e h hv
theorem ty_6316 {D : Dt} (h : Ty D) (a : Nat) : 0 ≤ d_I D 6316 a ∧ d_I D 6316 a ≤ 1 := h.1 6316 a
theorem tyI_6316 {D E : Dt} {a : Nat} {v : Int} (e : E = u_I D 6316 a v) (h : Ty D) (hv : 0 ≤ v ∧ v ≤ 1) : Ty E := tyIg e h hv
theorem ty_6317 {D : Dt} (h : Ty D) (a : Nat) : 0 ≤ d_I D 6317 a ∧ d_I D 6317 a ≤ 4096 := h.1 6317 a
theorem tyI_6317 {D E : Dt} {a : Nat} {v : Int} (e : E = u_I D 6317 a v) (h : Ty D) (hv : 0 ≤ v ∧ v ≤ 4096) : Ty E := tyIg e h hv
theorem ty_6325 {D : Dt} (h : Ty D) (a : Nat) : 0 ≤ d_I D 6325 a ∧ d_I D 6325 a ≤ 33 := h.1 6325 a
theorem tyI_6325 {D E : Dt} {a : Nat} {v : Int} (e : E = u_I D 6325 a v) (h : Ty D) (hv : 0 ≤ v ∧ v ≤ 33) : Ty E := tyIg e h hv
theorem ty_6326 {D : Dt} (h : Ty D) (a : Nat) : 0 ≤ d_I D 6326 a ∧ d_I D 6326 a ≤ 255 := h.1 6326 a
theorem tyI_6326 {D E : Dt} {a : Nat} {v : Int} (e : E = u_I D 6326 a v) (h : Ty D) (hv : 0 ≤ v ∧ v ≤ 255) : Ty E := tyIg e h hv
theorem ty_6327 {D : Dt} (h : Ty D) (a : Nat) : 0 ≤ d_I D 6327 a ∧ d_I D 6327 a ≤ 4096 := h.1 6327 a
theorem tyI_6327 {D E : Dt} {a : Nat} {v : Int} (e : E = u_I D 6327 a v) (h : Ty D) (hv : 0 ≤ v ∧ v ≤ 4096) : Ty E := tyIg e h hv
theorem ty_6328 {D : Dt} (h : Ty D) (a : Nat) : 0 ≤ d_I D 6328 a ∧ d_I D 6328 a ≤ 4096 := h.1 6328 a
theorem tyI_6328 {D E : Dt} {a : Nat} {v : Int} (e : E = u_I D 6328 a v) (h : Ty D) (hv : 0 ≤ v ∧ v ≤ 4096) : Ty E := tyIg e h hv
theorem ty_6329 {D : Dt} (h : Ty D) (a : Nat) : 0 ≤ d_I D 6329 a ∧ d_I D 6329 a ≤ 4096 := h.1 6329 a
theorem tyI_6329 {D E : Dt} {a : Nat} {v : Int} (e : E = u_I D 6329 a v) (h : Ty D) (hv : 0 ≤ v ∧ v ≤ 4096) : Ty E := tyIg e h hv
theorem ty_6330 {D : Dt} (h : Ty D) (a : Nat) : 0 ≤ d_I D 6330 a ∧ d_I D 6330 a ≤ 1 := h.1 6330 a
theorem tyI_6330 {D E : Dt} {a : Nat} {v : Int} (e : E = u_I D 6330 a v) (h : Ty D) (hv : 0 ≤ v ∧ v ≤ 1) : Ty E := tyIg e h hv
theorem ty_6331 {D : Dt} (h : Ty D) (a : Nat) : 0 ≤ d_I D 6331 a ∧ d_I D 6331 a ≤ 4095 := h.1 6331 a
theorem tyI_6331 {D E : Dt} {a : Nat} {v : Int} (e : E = u_I D 6331 a v) (h : Ty D) (hv : 0 ≤ v ∧ v ≤ 4095) : Ty E := tyIg e h hv
theorem ty_6332 {D : Dt} (h : Ty D) (a : Nat) : 0 ≤ d_I D 6332 a ∧ d_I D 6332 a ≤ 254 := h.1 6332 a
theorem tyI_6332 {D E : Dt} {a : Nat} {v : Int} (e : E = u_I D 6332 a v) (h : Ty D) (hv : 0 ≤ v ∧ v ≤ 254) : Ty E := tyIg e h hv
theorem ty_6333 {D : Dt} (h : Ty D) (a : Nat) : 0 ≤ d_I D 6333 a ∧ d_I D 6333 a ≤ 32 := h.1 6333 a
theorem tyI_6333 {D E : Dt} {a : Nat} {v : Int} (e : E = u_I D 6333 a v) (h : Ty D) (hv : 0 ≤ v ∧ v ≤ 32) : Ty E := tyIg e h hv
theorem ty_6334 {D : Dt} (h : Ty D) (a : Nat) : 0 ≤ d_I D 6334 a ∧ d_I D 6334 a ≤ 65536 := h.1 6334 a
theorem tyI_6334 {D E : Dt} {a : Nat} {v : Int} (e : E = u_I D 6334 a v) (h : Ty D) (hv : 0 ≤ v ∧ v ≤ 65536) : Ty E := tyIg e h hv
theorem ty_6335 {D : Dt} (h : Ty D) (a : Nat) : 0 ≤ d_I D 6335 a ∧ d_I D 6335 a ≤ 65536 := h.1 6335 a
theorem tyI_6335 {D E : Dt} {a : Nat} {v : Int} (e : E = u_I D 6335 a v) (h : Ty D) (hv : 0 ≤ v ∧ v ≤ 65536) : Ty E := tyIg e h hv
theorem ty_6336 {D : Dt} (h : Ty D) (a : Nat) : 0 ≤ d_I D 6336 a ∧ d_I D 6336 a ≤ 65536 := h.1 6336 a
theorem tyI_6336 {D E : Dt} {a : Nat} {v : Int} (e : E = u_I D 6336 a v) (h : Ty D) (hv : 0 ≤ v ∧ v ≤ 65536) : Ty E := tyIg e h hv
theorem ty_6337 {D : Dt} (h : Ty D) (a : Nat) : 0 ≤ d_I D 6337 a ∧ d_I D 6337 a ≤ 65536 := h.1 6337 a
theorem tyI_6337 {D E : Dt} {a : Nat} {v : Int} (e : E = u_I D 6337 a v) (h : Ty D) (hv : 0 ≤ v ∧ v ≤ 65536) : Ty E := tyIg e h hv
theorem ty_6401 {D : Dt} (h : Ty D) (a : Nat) : 0 ≤ d_I D 6401 a ∧ d_I D 6401 a ≤ 1024 := h.1 6401 a
theorem tyI_6401 {D E : Dt} {a : Nat} {v : Int} (e : E = u_I D 6401 a v) (h : Ty D) (hv : 0 ≤ v ∧ v ≤ 1024) : Ty E := tyIg e h hv
theorem ty_6402 {D : Dt} (h : Ty D) (a : Nat) : 0 ≤ d_I D 6402 a ∧ d_I D 6402 a ≤ 16384 := h.1 6402 a
theorem tyI_6402 {D E : Dt} {a : Nat} {v : Int} (e : E = u_I D 6402 a v) (h : Ty D) (hv : 0 ≤ v ∧ v ≤ 16384) : Ty E := tyIg e h hv
theorem ty_6405 {D : Dt} (h : Ty D) (a : Nat) : 0 ≤ d_I D 6405 a ∧ d_I D 6405 a ≤ 17408 := h.1 6405 a
theorem tyI_6405 {D E : Dt} {a : Nat} {v : Int} (e : E = u_I D 6405 a v) (h : Ty D) (hv : 0 ≤ v ∧ v ≤ 17408) : Ty E := tyIg e h hv
theorem ty_6408 {D : Dt} (h : Ty D) (a : Nat) : 0 ≤ d_I D 6408 a ∧ d_I D 6408 a ≤ 64 := h.1 6408 a
theorem tyI_6408 {D E : Dt} {a : Nat} {v : Int} (e : E = u_I D 6408 a v) (h : Ty D) (hv : 0 ≤ v ∧ v ≤ 64) : Ty E := tyIg e h hv
theorem ty_6500 {D : Dt} (h : Ty D) (a : Nat) : 0 ≤ d_I D 6500 a ∧ d_I D 6500 a ≤ 128 := h.1 6500 a
theorem tyI_6500 {D E : Dt} {a : Nat} {v : Int} (e : E = u_I D 6500 a v) (h : Ty D) (hv : 0 ≤ v ∧ v ≤ 128) : Ty E := tyIg e h hv
theorem ty_6501 {D : Dt} (h : Ty D) (a : Nat) : 0 ≤ d_I D 6501 a ∧ d_I D 6501 a ≤ 255 := h.1 6501 a
theorem tyI_6501 {D E : Dt} {a : Nat} {v : Int} (e : E = u_I D 6501 a v) (h : Ty D) (hv : 0 ≤ v ∧ v ≤ 255) : Ty E := tyIg e h hv
theorem ty_6502 {D : Dt} (h : Ty D) (a : Nat) : 0 ≤ d_I D 6502 a ∧ d_I D 6502 a ≤ 255 := h.1 6502 a
theorem tyI_6502 {D E : Dt} {a : Nat} {v : Int} (e : E = u_I D 6502 a v) (h : Ty D) (hv : 0 ≤ v ∧ v ≤ 255) : Ty E := tyIg e h hv
theorem ty_6503 {D : Dt} (h : Ty D) (a : Nat) : 0 ≤ d_I D 6503 a ∧ d_I D 6503 a ≤ 255 := h.1 6503 a
theorem tyI_6503 {D E : Dt} {a : Nat} {v : Int} (e : E = u_I D 6503 a v) (h : Ty D) (hv : 0 ≤ v ∧ v ≤ 255) : Ty E := tyIg e h hv
theorem ty_6504 {D : Dt} (h : Ty D) (a : Nat) : 0 ≤ d_I D 6504 a ∧ d_I D 6504 a ≤ 257 := h.1 6504 a
theorem tyI_6504 {D E : Dt} {a : Nat} {v : Int} (e : E = u_I D 6504 a v) (h : Ty D) (hv : 0 ≤ v ∧ v ≤ 257) : Ty E := tyIg e h hv
theorem ty_6505 {D : Dt} (h : Ty D) (a : Nat) : 0 ≤ d_I D 6505 a ∧ d_I D 6505 a ≤ 257 := h.1 6505 a
theorem tyI_6505 {D E : Dt} {a : Nat} {v : Int} (e : E = u_I D 6505 a v) (h : Ty D) (hv : 0 ≤ v ∧ v ≤ 257) : Ty E := tyIg e h hv
theorem ty_6506 {D : Dt} (h : Ty D) (a : Nat) : 0 ≤ d_I D 6506 a ∧ d_I D 6506 a ≤ 255 := h.1 6506 a
theorem tyI_6506 {D E : Dt} {a : Nat} {v : Int} (e : E = u_I D 6506 a v) (h : Ty D) (hv : 0 ≤ v ∧ v ≤ 255) : Ty E := tyIg e h hv
theorem ty_6507 {D : Dt} (h : Ty D) (a : Nat) : 0 ≤ d_I D 6507 a ∧ d_I D 6507 a ≤ 31 := h.1 6507 a
theorem tyI_6507 {D E : Dt} {a : Nat} {v : Int} (e : E = u_I D 6507 a v) (h : Ty D) (hv : 0 ≤ v ∧ v ≤ 31) : Ty E := tyIg e h hv
theorem ty_6508 {D : Dt} (h : Ty D) (a : Nat) : 0 ≤ d_I D 6508 a ∧ d_I D 6508 a ≤ 7 := h.1 6508 a
theorem tyI_6508 {D E : Dt} {a : Nat} {v : Int} (e : E = u_I D 6508 a v) (h : Ty D) (hv : 0 ≤ v ∧ v ≤ 7) : Ty E := tyIg e h hv
theorem ty_6509 {D : Dt} (h : Ty D) (a : Nat) : 0 ≤ d_I D 6509 a ∧ d_I D 6509 a ≤ 255 := h.1 6509 a
theorem tyI_6509 {D E : Dt} {a : Nat} {v : Int} (e : E = u_I D 6509 a v) (h : Ty D) (hv : 0 ≤ v ∧ v ≤ 255) : Ty E := tyIg e h hv
theorem ty_6510 {D : Dt} (h : Ty D) (a : Nat) : 0 ≤ d_I D 6510 a ∧ d_I D 6510 a ≤ 1 := h.1 6510 a
theorem tyI_6510 {D E : Dt} {a : Nat} {v : Int} (e : E = u_I D 6510 a v) (h : Ty D) (hv : 0 ≤ v ∧ v ≤ 1) : Ty E := tyIg e h hv
theorem ty_6511 {D : Dt} (h : Ty D) (a : Nat) : 0 ≤ d_I D 6511 a ∧ d_I D 6511 a ≤ 1 := h.1 6511 a
theorem tyI_6511 {D E : Dt} {a : Nat} {v : Int} (e : E = u_I D 6511 a v) (h : Ty D) (hv : 0 ≤ v ∧ v ≤ 1) : Ty E := tyIg e h hv
theorem ty_6700 {D : Dt} (h : Ty D) (a : Nat) : 0 ≤ d_I D 6700 a ∧ d_I D 6700 a ≤ 255 := h.1 6700 a
theorem tyI_6700 {D E : Dt} {a : Nat} {v : Int} (e : E = u_I D 6700 a v) (h : Ty D) (hv : 0 ≤ v ∧ v ≤ 255) : Ty E := tyIg e h hv
theorem ty_6701 {D : Dt} (h : Ty D) (a : Nat) : 0 ≤ d_I D 6701 a ∧ d_I D 6701 a ≤ 255 := h.1 6701 a
theorem tyI_6701 {D E : Dt} {a : Nat} {v : Int} (e : E = u_I D 6701 a v) (h : Ty D) (hv : 0 ≤ v ∧ v ≤ 255) : Ty E := tyIg e h hv
theorem ty_6702 {D : Dt} (h : Ty D) (a : Nat) : 0 ≤ d_I D 6702 a ∧ d_I D 6702 a ≤ 32 := h.1 6702 a
theorem tyI_6702 {D E : Dt} {a : Nat} {v : Int} (e : E = u_I D 6702 a v) (h : Ty D) (hv : 0 ≤ v ∧ v ≤ 32) : Ty E := tyIg e h hv
theorem ty_6703 {D : Dt} (h : Ty D) (a : Nat) : 0 ≤ d_I D 6703 a ∧ d_I D 6703 a ≤ 10 := h.1 6703 a
theorem tyI_6703 {D E : Dt} {a : Nat} {v : Int} (e : E = u_I D 6703 a v) (h : Ty D) (hv : 0 ≤ v ∧ v ≤ 10) : Ty E := tyIg e h hv
theorem ty_6704 {D : Dt} (h : Ty D) (a : Nat) : 0 ≤ d_I D 6704 a ∧ d_I D 6704 a ≤ 10 := h.1 6704 a
theorem tyI_6704 {D E : Dt} {a : Nat} {v : Int} (e : E = u_I D 6704 a v) (h : Ty D) (hv : 0 ≤ v ∧ v ≤ 10) : Ty E := tyIg e h hv
theorem ty_6802 {D : Dt} (h : Ty D) (a : Nat) : 0 ≤ d_I D 6802 a ∧ d_I D 6802 a ≤ 1 := h.1 6802 a
theorem tyI_6802 {D E : Dt} {a : Nat} {v : Int} (e : E = u_I D 6802 a v) (h : Ty D) (hv : 0 ≤ v ∧ v ≤ 1) : Ty E := tyIg e h hv
theorem ty_7000 {D : Dt} (h : Ty D) (a : Nat) : 0 ≤ d_I D 7000 a ∧ d_I D 7000 a ≤ 1023 := h.1 7000 a
theorem tyI_7000 {D E : Dt} {a : Nat} {v : Int} (e : E = u_I D 7000 a v) (h : Ty D) (hv : 0 ≤ v ∧ v ≤ 1023) : Ty E := tyIg e h hv
theorem ty_7002 {D : Dt} (h : Ty D) (a : Nat) : -1 ≤ d_I D 7002 a ∧ d_I D 7002 a ≤ 16383 := h.1 7002 a
theorem tyI_7002 {D E : Dt} {a : Nat} {v : Int} (e : E = u_I D 7002 a v) (h : Ty D) (hv : -1 ≤ v ∧ v ≤ 16383) : Ty E := tyIg e h hv
theorem ty_7003 {D : Dt} (h : Ty D) (a : Nat) : -1 ≤ d_I D 7003 a ∧ d_I D 7003 a ≤ 16383 := h.1 7003 a
theorem tyI_7003 {D E : Dt} {a : Nat} {v : Int} (e : E = u_I D 7003 a v) (h : Ty D) (hv : -1 ≤ v ∧ v ≤ 16383) : Ty E := tyIg e h hv
theorem ty_7004 {D : Dt} (h : Ty D) (a : Nat) : -1 ≤ d_I D 7004 a ∧ d_I D 7004 a ≤ 16383 := h.1 7004 a
theorem tyI_7004 {D E : Dt} {a : Nat} {v : Int} (e : E = u_I D 7004 a v) (h : Ty D) (hv : -1 ≤ v ∧ v ≤ 16383) : Ty E := tyIg e h hv
theorem ty_7005 {D : Dt} (h : Ty D) (a : Nat) : 0 ≤ d_I D 7005 a ∧ d_I D 7005 a ≤ 120 := h.1 7005 a
theorem tyI_7005 {D E : Dt} {a : Nat} {v : Int} (e : E = u_I D 7005 a v) (h : Ty D) (hv : 0 ≤ v ∧ v ≤ 120) : Ty E := tyIg e h hv
theorem ty_7006 {D : Dt} (h : Ty D) (a : Nat) : -1 ≤ d_I D 7006 a ∧ d_I D 7006 a ≤ 16383 := h.1 7006 a
theorem tyI_7006 {D E : Dt} {a : Nat} {v : Int} (e : E = u_I D 7006 a v) (h : Ty D) (hv : -1 ≤ v ∧ v ≤ 16383) : Ty E := tyIg e h hv
theorem ty_7007 {D : Dt} (h : Ty D) (a : Nat) : -1 ≤ d_I D 7007 a ∧ d_I D 7007 a ≤ 16383 := h.1 7007 a
theorem tyI_7007 {D E : Dt} {a : Nat} {v : Int} (e : E = u_I D 7007 a v) (h : Ty D) (hv : -1 ≤ v ∧ v ≤ 16383) : Ty E := tyIg e h hv
theorem ty_7200 {D : Dt} (h : Ty D) (a : Nat) : 0 ≤ d_I D 7200 a ∧ d_I D 7200 a ≤ 255 := h.1 7200 a
theorem tyI_7200 {D E : Dt} {a : Nat} {v : Int} (e : E = u_I D 7200 a v) (h : Ty D) (hv : 0 ≤ v ∧ v ≤ 255) : Ty E := tyIg e h hv
theorem ty_7201 {D : Dt} (h : Ty D) (a : Nat) : 0 ≤ d_I D 7201 a ∧ d_I D 7201 a ≤ 255 := h.1 7201 a
theorem tyI_7201 {D E : Dt} {a : Nat} {v : Int} (e : E = u_I D 7201 a v) (h : Ty D) (hv : 0 ≤ v ∧ v ≤ 255) : Ty E := tyIg e h hv
theorem ty_7202 {D : Dt} (h : Ty D) (a : Nat) : 0 ≤ d_I D 7202 a ∧ d_I D 7202 a ≤ 32 := h.1 7202 a
theorem tyI_7202 {D E : Dt} {a : Nat} {v : Int} (e : E = u_I D 7202 a v) (h : Ty D) (hv : 0 ≤ v ∧ v ≤ 32) : Ty E := tyIg e h hv
theorem ty_7203 {D : Dt} (h : Ty D) (a : Nat) : 0 ≤ d_I D 7203 a ∧ d_I D 7203 a ≤ 10 := h.1 7203 a
theorem tyI_7203 {D E : Dt} {a : Nat} {v : Int} (e : E = u_I D 7203 a v) (h : Ty D) (hv : 0 ≤ v ∧ v ≤ 10) : Ty E := tyIg e h hv
theorem ty_7204 {D : Dt} (h : Ty D) (a : Nat) : 0 ≤ d_I D 7204 a ∧ d_I D 7204 a ≤ 10 := h.1 7204 a
theorem tyI_7204 {D E : Dt} {a : Nat} {v : Int} (e : E = u_I D 7204 a v) (h : Ty D) (hv : 0 ≤ v ∧ v ≤ 10) : Ty E := tyIg e h hv
theorem ty_7302 {D : Dt} (h : Ty D) (a : Nat) : 0 ≤ d_I D 7302 a ∧ d_I D 7302 a ≤ 32 := h.1 7302 a
theorem tyI_7302 {D E : Dt} {a : Nat} {v : Int} (e : E = u_I D 7302 a v) (h : Ty D) (hv : 0 ≤ v ∧ v ≤ 32) : Ty E := tyIg e h hv
theorem ty_7400 {D : Dt} (h : Ty D) (a : Nat) : 0 ≤ d_I D 7400 a ∧ d_I D 7400 a ≤ 32 := h.1 7400 a
theorem tyI_7400 {D E : Dt} {a : Nat} {v : Int} (e : E = u_I D 7400 a v) (h : Ty D) (hv : 0 ≤ v ∧ v ≤ 32) : Ty E := tyIg e h hv
theorem ty_7403 {D : Dt} (h : Ty D) (a : Nat) : 0 ≤ d_I D 7403 a ∧ d_I D 7403 a ≤ 15 := h.1 7403 a
theorem tyI_7403 {D E : Dt} {a : Nat} {v : Int} (e : E = u_I D 7403 a v) (h : Ty D) (hv : 0 ≤ v ∧ v ≤ 15) : Ty E := tyIg e h hv
theorem ty_7404 {D : Dt} (h : Ty D) (a : Nat) : 0 ≤ d_I D 7404 a ∧ d_I D 7404 a ≤ 15 := h.1 7404 a
theorem tyI_7404 {D E : Dt} {a : Nat} {v : Int} (e : E = u_I D 7404 a v) (h : Ty D) (hv : 0 ≤ v ∧ v ≤ 15) : Ty E := tyIg e h hv
theorem ty_7405 {D : Dt} (h : Ty D) (a : Nat) : 0 ≤ d_I D 7405 a ∧ d_I D 7405 a ≤ 65536 := h.1 7405 a
theorem tyI_7405 {D E : Dt} {a : Nat} {v : Int} (e : E = u_I D 7405 a v) (h : Ty D) (hv : 0 ≤ v ∧ v ≤ 65536) : Ty E := tyIg e h hv
theorem ty_7406 {D : Dt} (h : Ty D) (a : Nat) : 0 ≤ d_I D 7406 a ∧ d_I D 7406 a ≤ 65536 := h.1 7406 a
theorem tyI_7406 {D E : Dt} {a : Nat} {v : Int} (e : E = u_I D 7406 a v) (h : Ty D) (hv : 0 ≤ v ∧ v ≤ 65536) : Ty E := tyIg e h hv
theorem ty_7500 {D : Dt} (h : Ty D) (a : Nat) : 0 ≤ d_I D 7500 a ∧ d_I D 7500 a ≤ 3 := h.1 7500 a
theorem tyI_7500 {D E : Dt} {a : Nat} {v : Int} (e : E = u_I D 7500 a v) (h : Ty D) (hv : 0 ≤ v ∧ v ≤ 3) : Ty E := tyIg e h hv
theorem ty_7502 {D : Dt} (h : Ty D) (a : Nat) : -1 ≤ d_I D 7502 a ∧ d_I D 7502 a ≤ 15 := h.1 7502 a
theorem tyI_7502 {D E : Dt} {a : Nat} {v : Int} (e : E = u_I D 7502 a v) (h : Ty D) (hv : -1 ≤ v ∧ v ≤ 15) : Ty E := tyIg e h hv
theorem ty_7503 {D : Dt} (h : Ty D) (a : Nat) : -1 ≤ d_I D 7503 a ∧ d_I D 7503 a ≤ 15 := h.1 7503 a
theorem tyI_7503 {D E : Dt} {a : Nat} {v : Int} (e : E = u_I D 7503 a v) (h : Ty D) (hv : -1 ≤ v ∧ v ≤ 15) : Ty E := tyIg e h hv
theorem ty_7504 {D : Dt} (h : Ty D) (a : Nat) : -1 ≤ d_I D 7504 a ∧ d_I D 7504 a ≤ 15 := h.1 7504 a
theorem tyI_7504 {D E : Dt} {a : Nat} {v : Int} (e : E = u_I D 7504 a v) (h : Ty D) (hv : -1 ≤ v ∧ v ≤ 15) : Ty E := tyIg e h hv
theorem ty_7505 {D : Dt} (h : Ty D) (a : Nat) : -1 ≤ d_I D 7505 a ∧ d_I D 7505 a ≤ 15 := h.1 7505 a
theorem tyI_7505 {D E : Dt} {a : Nat} {v : Int} (e : E = u_I D 7505 a v) (h : Ty D) (hv : -1 ≤ v ∧ v ≤ 15) : Ty E := tyIg e h hv
theorem ty_7600 {D : Dt} (h : Ty D) (a : Nat) : 0 ≤ d_I D 7600 a ∧ d_I D 7600 a ≤ 15 := h.1 7600 a
theorem tyI_7600 {D E : Dt} {a : Nat} {v : Int} (e : E = u_I D 7600 a v) (h : Ty D) (hv : 0 ≤ v ∧ v ≤ 15) : Ty E := tyIg e h hv
theorem ty_7603 {D : Dt} (h : Ty D) (a : Nat) : 0 ≤ d_I D 7603 a ∧ d_I D 7603 a ≤ 4096 := h.1 7603 a
theorem tyI_7603 {D E : Dt} {a : Nat} {v : Int} (e : E = u_I D 7603 a v) (h : Ty D) (hv : 0 ≤ v ∧ v ≤ 4096) : Ty E := tyIg e h hv
theorem ty_7604 {D : Dt} (h : Ty D) (a : Nat) : 0 ≤ d_I D 7604 a ∧ d_I D 7604 a ≤ 4096 := h.1 7604 a
theorem tyI_7604 {D E : Dt} {a : Nat} {v : Int} (e : E = u_I D 7604 a v) (h : Ty D) (hv : 0 ≤ v ∧ v ≤ 4096) : Ty E := tyIg e h hv
theorem ty_109 {D : Dt} (h : Ty D) (a : Nat) (j : Int) : -128 ≤ d_A D 109 a j ∧ d_A D 109 a j ≤ 127 := h.2 109 a j
theorem tyA_109 {D E : Dt} {a : Nat} {k v : Int} (e : E = u_A D 109 a k v) (h : Ty D) (hv : -128 ≤ v ∧ v ≤ 127) : Ty E := tyAg e h hv
theorem ty_114 {D : Dt} (h : Ty D) (a : Nat) (j : Int) : -128 ≤ d_A D 114 a j ∧ d_A D 114 a j ≤ 127 := h.2 114 a j
theorem tyA_114 {D E : Dt} {a : Nat} {k v : Int} (e : E = u_A D 114 a k v) (h : Ty D) (hv : -128 ≤ v ∧ v ≤ 127) : Ty E := tyAg e h hv
theorem ty_300 {D : Dt} (h : Ty D) (a : Nat) (j : Int) : -128 ≤ d_A D 300 a j ∧ d_A D 300 a j ≤ 127 := h.2 300 a j
theorem tyA_300 {D E : Dt} {a : Nat} {k v : Int} (e : E = u_A D 300 a k v) (h : Ty D) (hv : -128 ≤ v ∧ v ≤ 127) : Ty E := tyAg e h hv
theorem ty_400 {D : Dt} (h : Ty D) (a : Nat) (j : Int) : 0 ≤ d_A D 400 a j ∧ d_A D 400 a j ≤ 2147483647 := h.2 400 a j
theorem tyA_400 {D E : Dt} {a : Nat} {k v : Int} (e : E = u_A D 400 a k v) (h : Ty D) (hv : 0 ≤ v ∧ v ≤ 2147483647) : Ty E := tyAg e h hv
theorem ty_703 {D : Dt} (h : Ty D) (a : Nat) (j : Int) : 0 ≤ d_A D 703 a j ∧ d_A D 703 a j ≤ 1 := h.2 703 a j
theorem tyA_703 {D E : Dt} {a : Nat} {k v : Int} (e : E = u_A D 703 a k v) (h : Ty D) (hv : 0 ≤ v ∧ v ≤ 1) : Ty E := tyAg e h hv
theorem ty_900 {D : Dt} (h : Ty D) (a : Nat) (j : Int) : -128 ≤ d_A D 900 a j ∧ d_A D 900 a j ≤ 127 := h.2 900 a j
theorem tyA_900 {D E : Dt} {a : Nat} {k v : Int} (e : E = u_A D 900 a k v) (h : Ty D) (hv : -128 ≤ v ∧ v ≤ 127) : Ty E := tyAg e h hv
theorem ty_1109 {D : Dt} (h : Ty D) (a : Nat) (j : Int) : 0 ≤ d_A D 1109 a j ∧ d_A D 1109 a j ≤ 255 := h.2 1109 a j
theorem tyA_1109 {D E : Dt} {a : Nat} {k v : Int} (e : E = u_A D 1109 a k v) (h : Ty D) (hv : 0 ≤ v ∧ v ≤ 255) : Ty E := tyAg e h hv
theorem ty_1110 {D : Dt} (h : Ty D) (a : Nat) (j : Int) : -128 ≤ d_A D 1110 a j ∧ d_A D 1110 a j ≤ 127 := h.2 1110 a j
theorem tyA_1110 {D E : Dt} {a : Nat} {k v : Int} (e : E = u_A D 1110 a k v) (h : Ty D) (hv : -128 ≤ v ∧ v ≤ 127) : Ty E := tyAg e h hv
theorem ty_1112 {D : Dt} (h : Ty D) (a : Nat) (j : Int) : 0 ≤ d_A D 1112 a j ∧ d_A D 1112 a j ≤ 65535 := h.2 1112 a j
theorem tyA_1112 {D E : Dt} {a : Nat} {k v : Int} (e : E = u_A D 1112 a k v) (h : Ty D) (hv : 0 ≤ v ∧ v ≤ 65535) : Ty E := tyAg e h hv
theorem ty_1113 {D : Dt} (h : Ty D) (a : Nat) (j : Int) : 0 ≤ d_A D 1113 a j ∧ d_A D 1113 a j ≤ 65535 := h.2 1113 a j
theorem tyA_1113 {D E : Dt} {a : Nat} {k v : Int} (e : E = u_A D 1113 a k v) (h : Ty D) (hv : 0 ≤ v ∧ v ≤ 65535) : Ty E := tyAg e h hv
theorem ty_1202 {D : Dt} (h : Ty D) (a : Nat) (j : Int) : 0 ≤ d_A D 1202 a j ∧ d_A D 1202 a j ≤ 255 := h.2 1202 a j
theorem tyA_1202 {D E : Dt} {a : Nat} {k v : Int} (e : E = u_A D 1202 a k v) (h : Ty D) (hv : 0 ≤ v ∧ v ≤ 255) : Ty E := tyAg e h hv
theorem ty_1300 {D : Dt} (h : Ty D) (a : Nat) (j : Int) : -128 ≤ d_A D 1300 a j ∧ d_A D 1300 a j ≤ 65535 := h.2 1300 a j
theorem tyA_1300 {D E : Dt} {a : Nat} {k v : Int} (e : E = u_A D 1300 a k v) (h : Ty D) (hv : -128 ≤ v ∧ v ≤ 65535) : Ty E := tyAg e h hv
theorem ty_1401 {D : Dt} (h : Ty D) (a : Nat) (j : Int) : 0 ≤ d_A D 1401 a j ∧ d_A D 1401 a j ≤ 16384 := h.2 1401 a j
theorem tyA_1401 {D E : Dt} {a : Nat} {k v : Int} (e : E = u_A D 1401 a k v) (h : Ty D) (hv : 0 ≤ v ∧ v ≤ 16384) : Ty E := tyAg e h hv
theorem ty_1402 {D : Dt} (h : Ty D) (a : Nat) (j : Int) : 0 ≤ d_A D 1402 a j ∧ d_A D 1402 a j ≤ 32767 := h.2 1402 a j
theorem tyA_1402 {D E : Dt} {a : Nat} {k v : Int} (e : E = u_A D 1402 a k v) (h : Ty D) (hv : 0 ≤ v ∧ v ≤ 32767) : Ty E := tyAg e h hv
theorem ty_2305 {D : Dt} (h : Ty D) (a : Nat) (j : Int) : 0 ≤ d_A D 2305 a j ∧ d_A D 2305 a j ≤ 255 := h.2 2305 a j
theorem tyA_2305 {D E : Dt} {a : Nat} {k v : Int} (e : E = u_A D 2305 a k v) (h : Ty D) (hv : 0 ≤ v ∧ v ≤ 255) : Ty E := tyAg e h hv
theorem ty_2902 {D : Dt} (h : Ty D) (a : Nat) (j : Int) : 0 ≤ d_A D 2902 a j ∧ d_A D 2902 a j ≤ 65536 := h.2 2902 a j
theorem tyA_2902 {D E : Dt} {a : Nat} {k v : Int} (e : E = u_A D 2902 a k v) (h : Ty D) (hv : 0 ≤ v ∧ v ≤ 65536) : Ty E := tyAg e h hv
theorem ty_2903 {D : Dt} (h : Ty D) (a : Nat) (j : Int) : 0 ≤ d_A D 2903 a j ∧ d_A D 2903 a j ≤ 3 := h.2 2903 a j
theorem tyA_2903 {D E : Dt} {a : Nat} {k v : Int} (e : E = u_A D 2903 a k v) (h : Ty D) (hv : 0 ≤ v ∧ v ≤ 3) : Ty E := tyAg e h hv
theorem ty_2904 {D : Dt} (h : Ty D) (a : Nat) (j : Int) : 0 ≤ d_A D 2904 a j ∧ d_A D 2904 a j ≤ 32 := h.2 2904 a j
theorem tyA_2904 {D E : Dt} {a : Nat} {k v : Int} (e : E = u_A D 2904 a k v) (h : Ty D) (hv : 0 ≤ v ∧ v ≤ 32) : Ty E := tyAg e h hv
theorem ty_2905 {D : Dt} (h : Ty D) (a : Nat) (j : Int) : 0 ≤ d_A D 2905 a j ∧ d_A D 2905 a j ≤ 3 := h.2 2905 a j
theorem tyA_2905 {D E : Dt} {a : Nat} {k v : Int} (e : E = u_A D 2905 a k v) (h : Ty D) (hv : 0 ≤ v ∧ v ≤ 3) : Ty E := tyAg e h hv
theorem ty_2906 {D : Dt} (h : Ty D) (a : Nat) (j : Int) : 0 ≤ d_A D 2906 a j ∧ d_A D 2906 a j ≤ 65536 := h.2 2906 a j
theorem tyA_2906 {D E : Dt} {a : Nat} {k v : Int} (e : E = u_A D 2906 a k v) (h : Ty D) (hv : 0 ≤ v ∧ v ≤ 65536) : Ty E := tyAg e h hv
theorem ty_2907 {D : Dt} (h : Ty D) (a : Nat) (j : Int) : 0 ≤ d_A D 2907 a j ∧ d_A D 2907 a j ≤ 65536 := h.2 2907 a j
theorem tyA_2907 {D E : Dt} {a : Nat} {k v : Int} (e : E = u_A D 2907 a k v) (h : Ty D) (hv : 0 ≤ v ∧ v ≤ 65536) : Ty E := tyAg e h hv
theorem ty_2908 {D : Dt} (h : Ty D) (a : Nat) (j : Int) : 0 ≤ d_A D 2908 a j ∧ d_A D 2908 a j ≤ 64 := h.2 2908 a j
theorem tyA_2908 {D E : Dt} {a : Nat} {k v : Int} (e : E = u_A D 2908 a k v) (h : Ty D) (hv : 0 ≤ v ∧ v ≤ 64) : Ty E := tyAg e h hv
theorem ty_2909 {D : Dt} (h : Ty D) (a : Nat) (j : Int) : 0 ≤ d_A D 2909 a j ∧ d_A D 2909 a j ≤ 64 := h.2 2909 a j
theorem tyA_2909 {D E : Dt} {a : Nat} {k v : Int} (e : E = u_A D 2909 a k v) (h : Ty D) (hv : 0 ≤ v ∧ v ≤ 64) : Ty E := tyAg e h hv
theorem ty_2911 {D : Dt} (h : Ty D) (a : Nat) (j : Int) : 0 ≤ d_A D 2911 a j ∧ d_A D 2911 a j ≤ 3072 := h.2 2911 a j
theorem tyA_2911 {D E : Dt} {a : Nat} {k v : Int} (e : E = u_A D 2911 a k v) (h : Ty D) (hv : 0 ≤ v ∧ v ≤ 3072) : Ty E := tyAg e h hv
theorem ty_2912 {D : Dt} (h : Ty D) (a : Nat) (j : Int) : 0 ≤ d_A D 2912 a j ∧ d_A D 2912 a j ≤ 1024 := h.2 2912 a j
theorem tyA_2912 {D E : Dt} {a : Nat} {k v : Int} (e : E = u_A D 2912 a k v) (h : Ty D) (hv : 0 ≤ v ∧ v ≤ 1024) : Ty E := tyAg e h hv
theorem ty_3607 {D : Dt} (h : Ty D) (a : Nat) (j : Int) : -2147483647 ≤ d_A D 3607 a j ∧ d_A D 3607 a j ≤ 2147483647 := h.2 3607 a j
theorem tyA_3607 {D E : Dt} {a : Nat} {k v : Int} (e : E = u_A D 3607 a k v) (h : Ty D) (hv : -2147483647 ≤ v ∧ v ≤ 2147483647) : Ty E := tyAg e h hv
theorem ty_3700 {D : Dt} (h : Ty D) (a : Nat) (j : Int) : -128 ≤ d_A D 3700 a j ∧ d_A D 3700 a j ≤ 127 := h.2 3700 a j
theorem tyA_3700 {D E : Dt} {a : Nat} {k v : Int} (e : E = u_A D 3700 a k v) (h : Ty D) (hv : -128 ≤ v ∧ v ≤ 127) : Ty E := tyAg e h hv
theorem ty_3900 {D : Dt} (h : Ty D) (a : Nat) (j : Int) : 0 ≤ d_A D 3900 a j ∧ d_A D 3900 a j ≤ 46 := h.2 3900 a j
theorem tyA_3900 {D E : Dt} {a : Nat} {k v : Int} (e : E = u_A D 3900 a k v) (h : Ty D) (hv : 0 ≤ v ∧ v ≤ 46) : Ty E := tyAg e h hv
theorem ty_3901 {D : Dt} (h : Ty D) (a : Nat) (j : Int) : 0 ≤ d_A D 3901 a j ∧ d_A D 3901 a j ≤ 1 := h.2 3901 a j
theorem tyA_3901 {D E : Dt} {a : Nat} {k v : Int} (e : E = u_A D 3901 a k v) (h : Ty D) (hv : 0 ≤ v ∧ v ≤ 1) : Ty E := tyAg e h hv
theorem ty_4300 {D : Dt} (h : Ty D) (a : Nat) (j : Int) : -128 ≤ d_A D 4300 a j ∧ d_A D 4300 a j ≤ 127 := h.2 4300 a j
theorem tyA_4300 {D E : Dt} {a : Nat} {k v : Int} (e : E = u_A D 4300 a k v) (h : Ty D) (hv : -128 ≤ v ∧ v ≤ 127) : Ty E := tyAg e h hv
theorem ty_4301 {D : Dt} (h : Ty D) (a : Nat) (j : Int) : 0 ≤ d_A D 4301 a j ∧ d_A D 4301 a j ≤ 2147483647 := h.2 4301 a j
theorem tyA_4301 {D E : Dt} {a : Nat} {k v : Int} (e : E = u_A D 4301 a k v) (h : Ty D) (hv : 0 ≤ v ∧ v ≤ 2147483647) : Ty E := tyAg e h hv
theorem ty_4302 {D : Dt} (h : Ty D) (a : Nat) (j : Int) : 0 ≤ d_A D 4302 a j ∧ d_A D 4302 a j ≤ 30 := h.2 4302 a j
theorem tyA_4302 {D E : Dt} {a : Nat} {k v : Int} (e : E = u_A D 4302 a k v) (h : Ty D) (hv : 0 ≤ v ∧ v ≤ 30) : Ty E := tyAg e h hv
theorem ty_4500 {D : Dt} (h : Ty D) (a : Nat) (j : Int) : -128 ≤ d_A D 4500 a j ∧ d_A D 4500 a j ≤ 127 := h.2 4500 a j
theorem tyA_4500 {D E : Dt} {a : Nat} {k v : Int} (e : E = u_A D 4500 a k v) (h : Ty D) (hv : -128 ≤ v ∧ v ≤ 127) : Ty E := tyAg e h hv
theorem ty_4800 {D : Dt} (h : Ty D) (a : Nat) (j : Int) : 0 ≤ d_A D 4800 a j ∧ d_A D 4800 a j ≤ 65535 := h.2 4800 a j
theorem tyA_4800 {D E : Dt} {a : Nat} {k v : Int} (e : E = u_A D 4800 a k v) (h : Ty D) (hv : 0 ≤ v ∧ v ≤ 65535) : Ty E := tyAg e h hv
theorem ty_4802 {D : Dt} (h : Ty D) (a : Nat) (j : Int) : 0 ≤ d_A D 4802 a j ∧ d_A D 4802 a j ≤ 120 := h.2 4802 a j
theorem tyA_4802 {D E : Dt} {a : Nat} {k v : Int} (e : E = u_A D 4802 a k v) (h : Ty D) (hv : 0 ≤ v ∧ v ≤ 120) : Ty E := tyAg e h hv
theorem ty_4803 {D : Dt} (h : Ty D) (a : Nat) (j : Int) : -1 ≤ d_A D 4803 a j ∧ d_A D 4803 a j ≤ 16383 := h.2 4803 a j
theorem tyA_4803 {D E : Dt} {a : Nat} {k v : Int} (e : E = u_A D 4803 a k v) (h : Ty D) (hv : -1 ≤ v ∧ v ≤ 16383) : Ty E := tyAg e h hv
theorem ty_4804 {D : Dt} (h : Ty D) (a : Nat) (j : Int) : -1 ≤ d_A D 4804 a j ∧ d_A D 4804 a j ≤ 16383 := h.2 4804 a j
theorem tyA_4804 {D E : Dt} {a : Nat} {k v : Int} (e : E = u_A D 4804 a k v) (h : Ty D) (hv : -1 ≤ v ∧ v ≤ 16383) : Ty E := tyAg e h hv
theorem ty_5100 {D : Dt} (h : Ty D) (a : Nat) (j : Int) : -32768 ≤ d_A D 5100 a j ∧ d_A D 5100 a j ≤ 32767 := h.2 5100 a j
theorem tyA_5100 {D E : Dt} {a : Nat} {k v : Int} (e : E = u_A D 5100 a k v) (h : Ty D) (hv : -32768 ≤ v ∧ v ≤ 32767) : Ty E := tyAg e h hv
theorem ty_5101 {D : Dt} (h : Ty D) (a : Nat) (j : Int) : -32768 ≤ d_A D 5101 a j ∧ d_A D 5101 a j ≤ 32767 := h.2 5101 a j
theorem tyA_5101 {D E : Dt} {a : Nat} {k v : Int} (e : E = u_A D 5101 a k v) (h : Ty D) (hv : -32768 ≤ v ∧ v ≤ 32767) : Ty E := tyAg e h hv
theorem ty_5102 {D : Dt} (h : Ty D) (a : Nat) (j : Int) : -32768 ≤ d_A D 5102 a j ∧ d_A D 5102 a j ≤ 32767 := h.2 5102 a j
theorem tyA_5102 {D E : Dt} {a : Nat} {k v : Int} (e : E = u_A D 5102 a k v) (h : Ty D) (hv : -32768 ≤ v ∧ v ≤ 32767) : Ty E := tyAg e h hv
theorem ty_5103 {D : Dt} (h : Ty D) (a : Nat) (j : Int) : 0 ≤ d_A D 5103 a j ∧ d_A D 5103 a j ≤ 1 := h.2 5103 a j
theorem tyA_5103 {D E : Dt} {a : Nat} {k v : Int} (e : E = u_A D 5103 a k v) (h : Ty D) (hv : 0 ≤ v ∧ v ≤ 1) : Ty E := tyAg e h hv
theorem ty_5412 {D : Dt} (h : Ty D) (a : Nat) (j : Int) : -32768 ≤ d_A D 5412 a j ∧ d_A D 5412 a j ≤ 32767 := h.2 5412 a j
theorem tyA_5412 {D E : Dt} {a : Nat} {k v : Int} (e : E = u_A D 5412 a k v) (h : Ty D) (hv : -32768 ≤ v ∧ v ≤ 32767) : Ty E := tyAg e h hv
theorem ty_5413 {D : Dt} (h : Ty D) (a : Nat) (j : Int) : -32768 ≤ d_A D 5413 a j ∧ d_A D 5413 a j ≤ 32767 := h.2 5413 a j
theorem tyA_5413 {D E : Dt} {a : Nat} {k v : Int} (e : E = u_A D 5413 a k v) (h : Ty D) (hv : -32768 ≤ v ∧ v ≤ 32767) : Ty E := tyAg e h hv
theorem ty_5415 {D : Dt} (h : Ty D) (a : Nat) (j : Int) : -32768 ≤ d_A D 5415 a j ∧ d_A D 5415 a j ≤ 32767 := h.2 5415 a j
theorem tyA_5415 {D E : Dt} {a : Nat} {k v : Int} (e : E = u_A D 5415 a k v) (h : Ty D) (hv : -32768 ≤ v ∧ v ≤ 32767) : Ty E := tyAg e h hv
theorem ty_5416 {D : Dt} (h : Ty D) (a : Nat) (j : Int) : -32768 ≤ d_A D 5416 a j ∧ d_A D 5416 a j ≤ 32767 := h.2 5416 a j
theorem tyA_5416 {D E : Dt} {a : Nat} {k v : Int} (e : E = u_A D 5416 a k v) (h : Ty D) (hv : -32768 ≤ v ∧ v ≤ 32767) : Ty E := tyAg e h hv
theorem ty_5701 {D : Dt} (h : Ty D) (a : Nat) (j : Int) : 0 ≤ d_A D 5701 a j ∧ d_A D 5701 a j ≤ 2147483647 := h.2 5701 a j
theorem tyA_5701 {D E : Dt} {a : Nat} {k v : Int} (e : E = u_A D 5701 a k v) (h : Ty D) (hv : 0 ≤ v ∧ v ≤ 2147483647) : Ty E := tyAg e h hv
theorem ty_5704 {D : Dt} (h : Ty D) (a : Nat) (j : Int) : 0 ≤ d_A D 5704 a j ∧ d_A D 5704 a j ≤ 128 := h.2 5704 a j
theorem tyA_5704 {D E : Dt} {a : Nat} {k v : Int} (e : E = u_A D 5704 a k v) (h : Ty D) (hv : 0 ≤ v ∧ v ≤ 128) : Ty E := tyAg e h hv
theorem ty_5705 {D : Dt} (h : Ty D) (a : Nat) (j : Int) : 0 ≤ d_A D 5705 a j ∧ d_A D 5705 a j ≤ 1 := h.2 5705 a j
theorem tyA_5705 {D E : Dt} {a : Nat} {k v : Int} (e : E = u_A D 5705 a k v) (h : Ty D) (hv : 0 ≤ v ∧ v ≤ 1) : Ty E := tyAg e h hv
theorem ty_5706 {D : Dt} (h : Ty D) (a : Nat) (j : Int) : 0 ≤ d_A D 5706 a j ∧ d_A D 5706 a j ≤ 255 := h.2 5706 a j
theorem tyA_5706 {D E : Dt} {a : Nat} {k v : Int} (e : E = u_A D 5706 a k v) (h : Ty D) (hv : 0 ≤ v ∧ v ≤ 255) : Ty E := tyAg e h hv
theorem ty_5707 {D : Dt} (h : Ty D) (a : Nat) (j : Int) : 0 ≤ d_A D 5707 a j ∧ d_A D 5707 a j ≤ 255 := h.2 5707 a j
theorem tyA_5707 {D E : Dt} {a : Nat} {k v : Int} (e : E = u_A D 5707 a k v) (h : Ty D) (hv : 0 ≤ v ∧ v ≤ 255) : Ty E := tyAg e h hv
theorem ty_5713 {D : Dt} (h : Ty D) (a : Nat) (j : Int) : 0 ≤ d_A D 5713 a j ∧ d_A D 5713 a j ≤ 257 := h.2 5713 a j
theorem tyA_5713 {D E : Dt} {a : Nat} {k v : Int} (e : E = u_A D 5713 a k v) (h : Ty D) (hv : 0 ≤ v ∧ v ≤ 257) : Ty E := tyAg e h hv
theorem ty_5714 {D : Dt} (h : Ty D) (a : Nat) (j : Int) : 0 ≤ d_A D 5714 a j ∧ d_A D 5714 a j ≤ 15 := h.2 5714 a j
theorem tyA_5714 {D E : Dt} {a : Nat} {k v : Int} (e : E = u_A D 5714 a k v) (h : Ty D) (hv : 0 ≤ v ∧ v ≤ 15) : Ty E := tyAg e h hv
theorem ty_5715 {D : Dt} (h : Ty D) (a : Nat) (j : Int) : 0 ≤ d_A D 5715 a j ∧ d_A D 5715 a j ≤ 15 := h.2 5715 a j
theorem tyA_5715 {D E : Dt} {a : Nat} {k v : Int} (e : E = u_A D 5715 a k v) (h : Ty D) (hv : 0 ≤ v ∧ v ≤ 15) : Ty E := tyAg e h hv
theorem ty_5716 {D : Dt} (h : Ty D) (a : Nat) (j : Int) : 0 ≤ d_A D 5716 a j ∧ d_A D 5716 a j ≤ 65535 := h.2 5716 a j
theorem tyA_5716 {D E : Dt} {a : Nat} {k v : Int} (e : E = u_A D 5716 a k v) (h : Ty D) (hv : 0 ≤ v ∧ v ≤ 65535) : Ty E := tyAg e h hv
theorem ty_5718 {D : Dt} (h : Ty D) (a : Nat) (j : Int) : 0 ≤ d_A D 5718 a j ∧ d_A D 5718 a j ≤ 65535 := h.2 5718 a j
theorem tyA_5718 {D E : Dt} {a : Nat} {k v : Int} (e : E = u_A D 5718 a k v) (h : Ty D) (hv : 0 ≤ v ∧ v ≤ 65535) : Ty E := tyAg e h hv
theorem ty_5719 {D : Dt} (h : Ty D) (a : Nat) (j : Int) : 0 ≤ d_A D 5719 a j ∧ d_A D 5719 a j ≤ 255 := h.2 5719 a j
theorem tyA_5719 {D E : Dt} {a : Nat} {k v : Int} (e : E = u_A D 5719 a k v) (h : Ty D) (hv : 0 ≤ v ∧ v ≤ 255) : Ty E := tyAg e h hv
theorem ty_5804 {D : Dt} (h : Ty D) (a : Nat) (j : Int) : 0 ≤ d_A D 5804 a j ∧ d_A D 5804 a j ≤ 255 := h.2 5804 a j
theorem tyA_5804 {D E : Dt} {a : Nat} {k v : Int} (e : E = u_A D 5804 a k v) (h : Ty D) (hv : 0 ≤ v ∧ v ≤ 255) : Ty E := tyAg e h hv
theorem ty_5809 {D : Dt} (h : Ty D) (a : Nat) (j : Int) : 0 ≤ d_A D 5809 a j ∧ d_A D 5809 a j ≤ 255 := h.2 5809 a j
theorem tyA_5809 {D E : Dt} {a : Nat} {k v : Int} (e : E = u_A D 5809 a k v) (h : Ty D) (hv : 0 ≤ v ∧ v ≤ 255) : Ty E := tyAg e h hv
theorem ty_5812 {D : Dt} (h : Ty D) (a : Nat) (j : Int) : 0 ≤ d_A D 5812 a j ∧ d_A D 5812 a j ≤ 255 := h.2 5812 a j
theorem tyA_5812 {D E : Dt} {a : Nat} {k v : Int} (e : E = u_A D 5812 a k v) (h : Ty D) (hv : 0 ≤ v ∧ v ≤ 255) : Ty E := tyAg e h hv
theorem ty_5815 {D : Dt} (h : Ty D) (a : Nat) (j : Int) : 0 ≤ d_A D 5815 a j ∧ d_A D 5815 a j ≤ 65535 := h.2 5815 a j
theorem tyA_5815 {D E : Dt} {a : Nat} {k v : Int} (e : E = u_A D 5815 a k v) (h : Ty D) (hv : 0 ≤ v ∧ v ≤ 65535) : Ty E := tyAg e h hv
theorem ty_5817 {D : Dt} (h : Ty D) (a : Nat) (j : Int) : 0 ≤ d_A D 5817 a j ∧ d_A D 5817 a j ≤ 65535 := h.2 5817 a j
theorem tyA_5817 {D E : Dt} {a : Nat} {k v : Int} (e : E = u_A D 5817 a k v) (h : Ty D) (hv : 0 ≤ v ∧ v ≤ 65535) : Ty E := tyAg e h hv
theorem ty_5818 {D : Dt} (h : Ty D) (a : Nat) (j : Int) : -128 ≤ d_A D 5818 a j ∧ d_A D 5818 a j ≤ 65535 := h.2 5818 a j
theorem tyA_5818 {D E : Dt} {a : Nat} {k v : Int} (e : E = u_A D 5818 a k v) (h : Ty D) (hv : -128 ≤ v ∧ v ≤ 65535) : Ty E := tyAg e h hv
theorem ty_5819 {D : Dt} (h : Ty D) (a : Nat) (j : Int) : 0 ≤ d_A D 5819 a j ∧ d_A D 5819 a j ≤ 255 := h.2 5819 a j
theorem tyA_5819 {D E : Dt} {a : Nat} {k v : Int} (e : E = u_A D 5819 a k v) (h : Ty D) (hv : 0 ≤ v ∧ v ≤ 255) : Ty E := tyAg e h hv
theorem ty_5913 {D : Dt} (h : Ty D) (a : Nat) (j : Int) : 0 ≤ d_A D 5913 a j ∧ d_A D 5913 a j ≤ 255 := h.2 5913 a j
theorem tyA_5913 {D E : Dt} {a : Nat} {k v : Int} (e : E = u_A D 5913 a k v) (h : Ty D) (hv : 0 ≤ v ∧ v ≤ 255) : Ty E := tyAg e h hv
theorem ty_5914 {D : Dt} (h : Ty D) (a : Nat) (j : Int) : 0 ≤ d_A D 5914 a j ∧ d_A D 5914 a j ≤ 255 := h.2 5914 a j
theorem tyA_5914 {D E : Dt} {a : Nat} {k v : Int} (e : E = u_A D 5914 a k v) (h : Ty D) (hv : 0 ≤ v ∧ v ≤ 255) : Ty E := tyAg e h hv
theorem ty_5915 {D : Dt} (h : Ty D) (a : Nat) (j : Int) : 0 ≤ d_A D 5915 a j ∧ d_A D 5915 a j ≤ 32 := h.2 5915 a j
theorem tyA_5915 {D E : Dt} {a : Nat} {k v : Int} (e : E = u_A D 5915 a k v) (h : Ty D) (hv : 0 ≤ v ∧ v ≤ 32) : Ty E := tyAg e h hv
theorem ty_5916 {D : Dt} (h : Ty D) (a : Nat) (j : Int) : 0 ≤ d_A D 5916 a j ∧ d_A D 5916 a j ≤ 10 := h.2 5916 a j
theorem tyA_5916 {D E : Dt} {a : Nat} {k v : Int} (e : E = u_A D 5916 a k v) (h : Ty D) (hv : 0 ≤ v ∧ v ≤ 10) : Ty E := tyAg e h hv
theorem ty_5917 {D : Dt} (h : Ty D) (a : Nat) (j : Int) : 0 ≤ d_A D 5917 a j ∧ d_A D 5917 a j ≤ 10 := h.2 5917 a j
theorem tyA_5917 {D E : Dt} {a : Nat} {k v : Int} (e : E = u_A D 5917 a k v) (h : Ty D) (hv : 0 ≤ v ∧ v ≤ 10) : Ty E := tyAg e h hv
theorem ty_5918 {D : Dt} (h : Ty D) (a : Nat) (j : Int) : 0 ≤ d_A D 5918 a j ∧ d_A D 5918 a j ≤ 15 := h.2 5918 a j
theorem tyA_5918 {D E : Dt} {a : Nat} {k v : Int} (e : E = u_A D 5918 a k v) (h : Ty D) (hv : 0 ≤ v ∧ v ≤ 15) : Ty E := tyAg e h hv
theorem ty_5919 {D : Dt} (h : Ty D) (a : Nat) (j : Int) : 0 ≤ d_A D 5919 a j ∧ d_A D 5919 a j ≤ 15 := h.2 5919 a j
theorem tyA_5919 {D E : Dt} {a : Nat} {k v : Int} (e : E = u_A D 5919 a k v) (h : Ty D) (hv : 0 ≤ v ∧ v ≤ 15) : Ty E := tyAg e h hv
theorem ty_6100 {D : Dt} (h : Ty D) (a : Nat) (j : Int) : 0 ≤ d_A D 6100 a j ∧ d_A D 6100 a j ≤ 22017 := h.2 6100 a j
theorem tyA_6100 {D E : Dt} {a : Nat} {k v : Int} (e : E = u_A D 6100 a k v) (h : Ty D) (hv : 0 ≤ v ∧ v ≤ 22017) : Ty E := tyAg e h hv
theorem ty_6101 {D : Dt} (h : Ty D) (a : Nat) (j : Int) : 0 ≤ d_A D 6101 a j ∧ d_A D 6101 a j ≤ 46 := h.2 6101 a j
theorem tyA_6101 {D E : Dt} {a : Nat} {k v : Int} (e : E = u_A D 6101 a k v) (h : Ty D) (hv : 0 ≤ v ∧ v ≤ 46) : Ty E := tyAg e h hv
theorem ty_6107 {D : Dt} (h : Ty D) (a : Nat) (j : Int) : 0 ≤ d_A D 6107 a j ∧ d_A D 6107 a j ≤ 2147483647 := h.2 6107 a j
theorem tyA_6107 {D E : Dt} {a : Nat} {k v : Int} (e : E = u_A D 6107 a k v) (h : Ty D) (hv : 0 ≤ v ∧ v ≤ 2147483647) : Ty E := tyAg e h hv
theorem ty_6108 {D : Dt} (h : Ty D) (a : Nat) (j : Int) : 0 ≤ d_A D 6108 a j ∧ d_A D 6108 a j ≤ 1 := h.2 6108 a j
theorem tyA_6108 {D E : Dt} {a : Nat} {k v : Int} (e : E = u_A D 6108 a k v) (h : Ty D) (hv : 0 ≤ v ∧ v ≤ 1) : Ty E := tyAg e h hv
theorem ty_6113 {D : Dt} (h : Ty D) (a : Nat) (j : Int) : 0 ≤ d_A D 6113 a j ∧ d_A D 6113 a j ≤ 65541 := h.2 6113 a j
theorem tyA_6113 {D E : Dt} {a : Nat} {k v : Int} (e : E = u_A D 6113 a k v) (h : Ty D) (hv : 0 ≤ v ∧ v ≤ 65541) : Ty E := tyAg e h hv
theorem ty_6115 {D : Dt} (h : Ty D) (a : Nat) (j : Int) : 0 ≤ d_A D 6115 a j ∧ d_A D 6115 a j ≤ 91 := h.2 6115 a j
theorem tyA_6115 {D E : Dt} {a : Nat} {k v : Int} (e : E = u_A D 6115 a k v) (h : Ty D) (hv : 0 ≤ v ∧ v ≤ 91) : Ty E := tyAg e h hv
theorem ty_6117 {D : Dt} (h : Ty D) (a : Nat) (j : Int) : 0 ≤ d_A D 6117 a j ∧ d_A D 6117 a j ≤ 65536 := h.2 6117 a j
theorem tyA_6117 {D E : Dt} {a : Nat} {k v : Int} (e : E = u_A D 6117 a k v) (h : Ty D) (hv : 0 ≤ v ∧ v ≤ 65536) : Ty E := tyAg e h hv
theorem ty_6118 {D : Dt} (h : Ty D) (a : Nat) (j : Int) : 0 ≤ d_A D 6118 a j ∧ d_A D 6118 a j ≤ 65536 := h.2 6118 a j
theorem tyA_6118 {D E : Dt} {a : Nat} {k v : Int} (e : E = u_A D 6118 a k v) (h : Ty D) (hv : 0 ≤ v ∧ v ≤ 65536) : Ty E := tyAg e h hv
theorem ty_6120 {D : Dt} (h : Ty D) (a : Nat) (j : Int) : 0 ≤ d_A D 6120 a j ∧ d_A D 6120 a j ≤ 2147483647 := h.2 6120 a j
theorem tyA_6120 {D E : Dt} {a : Nat} {k v : Int} (e : E = u_A D 6120 a k v) (h : Ty D) (hv : 0 ≤ v ∧ v ≤ 2147483647) : Ty E := tyAg e h hv
theorem ty_6121 {D : Dt} (h : Ty D) (a : Nat) (j : Int) : 0 ≤ d_A D 6121 a j ∧ d_A D 6121 a j ≤ 1 := h.2 6121 a j
theorem tyA_6121 {D E : Dt} {a : Nat} {k v : Int} (e : E = u_A D 6121 a k v) (h : Ty D) (hv : 0 ≤ v ∧ v ≤ 1) : Ty E := tyAg e h hv
theorem ty_6122 {D : Dt} (h : Ty D) (a : Nat) (j : Int) : 0 ≤ d_A D 6122 a j ∧ d_A D 6122 a j ≤ 30 := h.2 6122 a j
theorem tyA_6122 {D E : Dt} {a : Nat} {k v : Int} (e : E = u_A D 6122 a k v) (h : Ty D) (hv : 0 ≤ v ∧ v ≤ 30) : Ty E := tyAg e h hv
theorem ty_6123 {D : Dt} (h : Ty D) (a : Nat) (j : Int) : -1 ≤ d_A D 6123 a j ∧ d_A D 6123 a j ≤ 30 := h.2 6123 a j
theorem tyA_6123 {D E : Dt} {a : Nat} {k v : Int} (e : E = u_A D 6123 a k v) (h : Ty D) (hv : -1 ≤ v ∧ v ≤ 30) : Ty E := tyAg e h hv
theorem ty_6124 {D : Dt} (h : Ty D) (a : Nat) (j : Int) : 0 ≤ d_A D 6124 a j ∧ d_A D 6124 a j ≤ 1 := h.2 6124 a j
theorem tyA_6124 {D E : Dt} {a : Nat} {k v : Int} (e : E = u_A D 6124 a k v) (h : Ty D) (hv : 0 ≤ v ∧ v ≤ 1) : Ty E := tyAg e h hv
theorem ty_6128 {D : Dt} (h : Ty D) (a : Nat) (j : Int) : 0 ≤ d_A D 6128 a j ∧ d_A D 6128 a j ≤ 46 := h.2 6128 a j
theorem tyA_6128 {D E : Dt} {a : Nat} {k v : Int} (e : E = u_A D 6128 a k v) (h : Ty D) (hv : 0 ≤ v ∧ v ≤ 46) : Ty E := tyAg e h hv
theorem ty_6129 {D : Dt} (h : Ty D) (a : Nat) (j : Int) : 0 ≤ d_A D 6129 a j ∧ d_A D 6129 a j ≤ 1 := h.2 6129 a j
theorem tyA_6129 {D E : Dt} {a : Nat} {k v : Int} (e : E = u_A D 6129 a k v) (h : Ty D) (hv : 0 ≤ v ∧ v ≤ 1) : Ty E := tyAg e h hv
theorem ty_6131 {D : Dt} (h : Ty D) (a : Nat) (j : Int) : 0 ≤ d_A D 6131 a j ∧ d_A D 6131 a j ≤ 255 := h.2 6131 a j
theorem tyA_6131 {D E : Dt} {a : Nat} {k v : Int} (e : E = u_A D 6131 a k v) (h : Ty D) (hv : 0 ≤ v ∧ v ≤ 255) : Ty E := tyAg e h hv
theorem ty_6207 {D : Dt} (h : Ty D) (a : Nat) (j : Int) : -128 ≤ d_A D 6207 a j ∧ d_A D 6207 a j ≤ 127 := h.2 6207 a j
theorem tyA_6207 {D E : Dt} {a : Nat} {k v : Int} (e : E = u_A D 6207 a k v) (h : Ty D) (hv : -128 ≤ v ∧ v ≤ 127) : Ty E := tyAg e h hv
theorem ty_6220 {D : Dt} (h : Ty D) (a : Nat) (j : Int) : 0 ≤ d_A D 6220 a j ∧ d_A D 6220 a j ≤ 1 := h.2 6220 a j
theorem tyA_6220 {D E : Dt} {a : Nat} {k v : Int} (e : E = u_A D 6220 a k v) (h : Ty D) (hv : 0 ≤ v ∧ v ≤ 1) : Ty E := tyAg e h hv
theorem ty_6307 {D : Dt} (h : Ty D) (a : Nat) (j : Int) : 0 ≤ d_A D 6307 a j ∧ d_A D 6307 a j ≤ 255 := h.2 6307 a j
theorem tyA_6307 {D E : Dt} {a : Nat} {k v : Int} (e : E = u_A D 6307 a k v) (h : Ty D) (hv : 0 ≤ v ∧ v ≤ 255) : Ty E := tyAg e h hv
theorem ty_6308 {D : Dt} (h : Ty D) (a : Nat) (j : Int) : 0 ≤ d_A D 6308 a j ∧ d_A D 6308 a j ≤ 255 := h.2 6308 a j
theorem tyA_6308 {D E : Dt} {a : Nat} {k v : Int} (e : E = u_A D 6308 a k v) (h : Ty D) (hv : 0 ≤ v ∧ v ≤ 255) : Ty E := tyAg e h hv
theorem ty_6309 {D : Dt} (h : Ty D) (a : Nat) (j : Int) : 0 ≤ d_A D 6309 a j ∧ d_A D 6309 a j ≤ 32 := h.2 6309 a j
theorem tyA_6309 {D E : Dt} {a : Nat} {k v : Int} (e : E = u_A D 6309 a k v) (h : Ty D) (hv : 0 ≤ v ∧ v ≤ 32) : Ty E := tyAg e h hv
theorem ty_6310 {D : Dt} (h : Ty D) (a : Nat) (j : Int) : 0 ≤ d_A D 6310 a j ∧ d_A D 6310 a j ≤ 15 := h.2 6310 a j
theorem tyA_6310 {D E : Dt} {a : Nat} {k v : Int} (e : E = u_A D 6310 a k v) (h : Ty D) (hv : 0 ≤ v ∧ v ≤ 15) : Ty E := tyAg e h hv
theorem ty_6311 {D : Dt} (h : Ty D) (a : Nat) (j : Int) : 0 ≤ d_A D 6311 a j ∧ d_A D 6311 a j ≤ 15 := h.2 6311 a j
theorem tyA_6311 {D E : Dt} {a : Nat} {k v : Int} (e : E = u_A D 6311 a k v) (h : Ty D) (hv : 0 ≤ v ∧ v ≤ 15) : Ty E := tyAg e h hv
theorem ty_6315 {D : Dt} (h : Ty D) (a : Nat) (j : Int) : 0 ≤ d_A D 6315 a j ∧ d_A D 6315 a j ≤ 255 := h.2 6315 a j
theorem tyA_6315 {D E : Dt} {a : Nat} {k v : Int} (e : E = u_A D 6315 a k v) (h : Ty D) (hv : 0 ≤ v ∧ v ≤ 255) : Ty E := tyAg e h hv
theorem ty_6318 {D : Dt} (h : Ty D) (a : Nat) (j : Int) : 0 ≤ d_A D 6318 a j ∧ d_A D 6318 a j ≤ 15 := h.2 6318 a j
theorem tyA_6318 {D E : Dt} {a : Nat} {k v : Int} (e : E = u_A D 6318 a k v) (h : Ty D) (hv : 0 ≤ v ∧ v ≤ 15) : Ty E := tyAg e h hv
theorem ty_6319 {D : Dt} (h : Ty D) (a : Nat) (j : Int) : 0 ≤ d_A D 6319 a j ∧ d_A D 6319 a j ≤ 32 := h.2 6319 a j
theorem tyA_6319 {D E : Dt} {a : Nat} {k v : Int} (e : E = u_A D 6319 a k v) (h : Ty D) (hv : 0 ≤ v ∧ v ≤ 32) : Ty E := tyAg e h hv
theorem ty_6320 {D : Dt} (h : Ty D) (a : Nat) (j : Int) : 0 ≤ d_A D 6320 a j ∧ d_A D 6320 a j ≤ 4095 := h.2 6320 a j
theorem tyA_6320 {D E : Dt} {a : Nat} {k v : Int} (e : E = u_A D 6320 a k v) (h : Ty D) (hv : 0 ≤ v ∧ v ≤ 4095) : Ty E := tyAg e h hv
theorem ty_6323 {D : Dt} (h : Ty D) (a : Nat) (j : Int) : 0 ≤ d_A D 6323 a j ∧ d_A D 6323 a j ≤ 255 := h.2 6323 a j
theorem tyA_6323 {D E : Dt} {a : Nat} {k v : Int} (e : E = u_A D 6323 a k v) (h : Ty D) (hv : 0 ≤ v ∧ v ≤ 255) : Ty E := tyAg e h hv
theorem ty_6324 {D : Dt} (h : Ty D) (a : Nat) (j : Int) : 0 ≤ d_A D 6324 a j ∧ d_A D 6324 a j ≤ 4095 := h.2 6324 a j
theorem tyA_6324 {D E : Dt} {a : Nat} {k v : Int} (e : E = u_A D 6324 a k v) (h : Ty D) (hv : 0 ≤ v ∧ v ≤ 4095) : Ty E := tyAg e h hv
theorem ty_6403 {D : Dt} (h : Ty D) (a : Nat) (j : Int) : 0 ≤ d_A D 6403 a j ∧ d_A D 6403 a j ≤ 120 := h.2 6403 a j
theorem tyA_6403 {D E : Dt} {a : Nat} {k v : Int} (e : E = u_A D 6403 a k v) (h : Ty D) (hv : 0 ≤ v ∧ v ≤ 120) : Ty E := tyAg e h hv
theorem ty_6404 {D : Dt} (h : Ty D) (a : Nat) (j : Int) : 0 ≤ d_A D 6404 a j ∧ d_A D 6404 a j ≤ 17408 := h.2 6404 a j
theorem tyA_6404 {D E : Dt} {a : Nat} {k v : Int} (e : E = u_A D 6404 a k v) (h : Ty D) (hv : 0 ≤ v ∧ v ≤ 17408) : Ty E := tyAg e h hv
theorem ty_6406 {D : Dt} (h : Ty D) (a : Nat) (j : Int) : 0 ≤ d_A D 6406 a j ∧ d_A D 6406 a j ≤ 65535 := h.2 6406 a j
theorem tyA_6406 {D E : Dt} {a : Nat} {k v : Int} (e : E = u_A D 6406 a k v) (h : Ty D) (hv : 0 ≤ v ∧ v ≤ 65535) : Ty E := tyAg e h hv
theorem ty_6409 {D : Dt} (h : Ty D) (a : Nat) (j : Int) : 0 ≤ d_A D 6409 a j ∧ d_A D 6409 a j ≤ 120 := h.2 6409 a j
theorem tyA_6409 {D E : Dt} {a : Nat} {k v : Int} (e : E = u_A D 6409 a k v) (h : Ty D) (hv : 0 ≤ v ∧ v ≤ 120) : Ty E := tyAg e h hv
theorem ty_6413 {D : Dt} (h : Ty D) (a : Nat) (j : Int) : 0 ≤ d_A D 6413 a j ∧ d_A D 6413 a j ≤ 120 := h.2 6413 a j
theorem tyA_6413 {D E : Dt} {a : Nat} {k v : Int} (e : E = u_A D 6413 a k v) (h : Ty D) (hv : 0 ≤ v ∧ v ≤ 120) : Ty E := tyAg e h hv
theorem ty_6414 {D : Dt} (h : Ty D) (a : Nat) (j : Int) : -1 ≤ d_A D 6414 a j ∧ d_A D 6414 a j ≤ 120 := h.2 6414 a j
theorem tyA_6414 {D E : Dt} {a : Nat} {k v : Int} (e : E = u_A D 6414 a k v) (h : Ty D) (hv : -1 ≤ v ∧ v ≤ 120) : Ty E := tyAg e h hv
theorem ty_6512 {D : Dt} (h : Ty D) (a : Nat) (j : Int) : 0 ≤ d_A D 6512 a j ∧ d_A D 6512 a j ≤ 15 := h.2 6512 a j
theorem tyA_6512 {D E : Dt} {a : Nat} {k v : Int} (e : E = u_A D 6512 a k v) (h : Ty D) (hv : 0 ≤ v ∧ v ≤ 15) : Ty E := tyAg e h hv
theorem ty_6513 {D : Dt} (h : Ty D) (a : Nat) (j : Int) : 0 ≤ d_A D 6513 a j ∧ d_A D 6513 a j ≤ 15 := h.2 6513 a j
theorem tyA_6513 {D E : Dt} {a : Nat} {k v : Int} (e : E = u_A D 6513 a k v) (h : Ty D) (hv : 0 ≤ v ∧ v ≤ 15) : Ty E := tyAg e h hv
theorem ty_6514 {D : Dt} (h : Ty D) (a : Nat) (j : Int) : 0 ≤ d_A D 6514 a j ∧ d_A D 6514 a j ≤ 65535 := h.2 6514 a j
theorem tyA_6514 {D E : Dt} {a : Nat} {k v : Int} (e : E = u_A D 6514 a k v) (h : Ty D) (hv : 0 ≤ v ∧ v ≤ 65535) : Ty E := tyAg e h hv
theorem ty_6705 {D : Dt} (h : Ty D) (a : Nat) (j : Int) : 0 ≤ d_A D 6705 a j ∧ d_A D 6705 a j ≤ 15 := h.2 6705 a j
theorem tyA_6705 {D E : Dt} {a : Nat} {k v : Int} (e : E = u_A D 6705 a k v) (h : Ty D) (hv : 0 ≤ v ∧ v ≤ 15) : Ty E := tyAg e h hv
theorem ty_6706 {D : Dt} (h : Ty D) (a : Nat) (j : Int) : 0 ≤ d_A D 6706 a j ∧ d_A D 6706 a j ≤ 15 := h.2 6706 a j
theorem tyA_6706 {D E : Dt} {a : Nat} {k v : Int} (e : E = u_A D 6706 a k v) (h : Ty D) (hv : 0 ≤ v ∧ v ≤ 15) : Ty E := tyAg e h hv
theorem ty_7100 {D : Dt} (h : Ty D) (a : Nat) (j : Int) : 0 ≤ d_A D 7100 a j ∧ d_A D 7100 a j ≤ 120 := h.2 7100 a j
theorem tyA_7100 {D E : Dt} {a : Nat} {k v : Int} (e : E = u_A D 7100 a k v) (h : Ty D) (hv : 0 ≤ v ∧ v ≤ 120) : Ty E := tyAg e h hv
theorem ty_7205 {D : Dt} (h : Ty D) (a : Nat) (j : Int) : 0 ≤ d_A D 7205 a j ∧ d_A D 7205 a j ≤ 15 := h.2 7205 a j
theorem tyA_7205 {D E : Dt} {a : Nat} {k v : Int} (e : E = u_A D 7205 a k v) (h : Ty D) (hv : 0 ≤ v ∧ v ≤ 15) : Ty E := tyAg e h hv
theorem ty_7206 {D : Dt} (h : Ty D) (a : Nat) (j : Int) : 0 ≤ d_A D 7206 a j ∧ d_A D 7206 a j ≤ 15 := h.2 7206 a j
theorem tyA_7206 {D E : Dt} {a : Nat} {k v : Int} (e : E = u_A D 7206 a k v) (h : Ty D) (hv : 0 ≤ v ∧ v ≤ 15) : Ty E := tyAg e h hv
theorem rdI_I {D E : Dt} {i b l a : Nat} {v : Int} (e : E = u_I D l a v) (h : Nat.beq i l = false) : d_I E i b = d_I D i b := by
  subst e; have hn : ¬ i = l := fun z => by rw [z] at h; simp at h
  show (if _ ∧ _ then _ else _) = _; rw [if_neg (fun q => hn q.1)]; rfl
theorem rdI_R {D E : Dt} {i b l a : Nat} {v : Option Nat} (e : E = u_R D l a v) : d_I E i b = d_I D i b := by subst e; rfl
theorem rdI_A {D E : Dt} {i b l a : Nat} {k v : Int} (e : E = u_A D l a k v) : d_I E i b = d_I D i b := by subst e; rfl
theorem rdI_F {D E : Dt} {i b l a : Nat} {k : Int} {v : UInt32} (e : E = u_F D l a k v) : d_I E i b = d_I D i b := by subst e; rfl
theorem rdI_q {D E : Dt} {i b l a : Nat} {k : Int} {v : Option Nat} (e : E = u_q D l a k v) : d_I E i b = d_I D i b := by subst e; rfl
theorem rdI_W {D E : Dt} {i b l a : Nat} {v : Int → Int} (e : E = u_W D l a v) : d_I E i b = d_I D i b := by subst e; rfl
theorem rdI_N {D E : Dt} {i b l a : Nat} {v : Nat} (e : E = u_N D l a v) : d_I E i b = d_I D i b := by subst e; rfl
theorem rdI_e {D E : Dt} {i b : Nat} (e : E = D) : d_I E i b = d_I D i b := by subst e; rfl
theorem rdR_I {D E : Dt} {i b l a : Nat} {v : Int} (e : E = u_I D l a v) : d_R E i b = d_R D i b := by subst e; rfl
theorem rdR_R {D E : Dt} {i b l a : Nat} {v : Option Nat} (e : E = u_R D l a v) (h : Nat.beq i l = false) : d_R E i b = d_R D i b := by
  subst e; have hn : ¬ i = l := fun z => by rw [z] at h; simp at h
  show (if _ ∧ _ then _ else _) = _; rw [if_neg (fun q => hn q.1)]; rfl
theorem rdR_A {D E : Dt} {i b l a : Nat} {k v : Int} (e : E = u_A D l a k v) : d_R E i b = d_R D i b := by subst e; rfl
theorem rdR_F {D E : Dt} {i b l a : Nat} {k : Int} {v : UInt32} (e : E = u_F D l a k v) : d_R E i b = d_R D i b := by subst e; rfl
theorem rdR_q {D E : Dt} {i b l a : Nat} {k : Int} {v : Option Nat} (e : E = u_q D l a k v) : d_R E i b = d_R D i b := by subst e; rfl
theorem rdR_W {D E : Dt} {i b l a : Nat} {v : Int → Int} (e : E = u_W D l a v) : d_R E i b = d_R D i b := by subst e; rfl
theorem rdR_N {D E : Dt} {i b l a : Nat} {v : Nat} (e : E = u_N D l a v) : d_R E i b = d_R D i b := by subst e; rfl
theorem rdR_e {D E : Dt} {i b : Nat} (e : E = D) : d_R E i b = d_R D i b := by subst e; rfl
theorem rdA_I {D E : Dt} {i b l a : Nat} {v : Int} (e : E = u_I D l a v) : d_A E i b = d_A D i b := by subst e; rfl
theorem rdA_R {D E : Dt} {i b l a : Nat} {v : Option Nat} (e : E = u_R D l a v) : d_A E i b = d_A D i b := by subst e; rfl
theorem rdA_A {D E : Dt} {i b l a : Nat} {k v : Int} (e : E = u_A D l a k v) (h : Nat.beq i l = false) : d_A E i b = d_A D i b := by
  subst e; have hn : ¬ i = l := fun z => by rw [z] at h; simp at h
  funext z; show (if _ ∧ _ ∧ _ then _ else _) = _; rw [if_neg (fun q => hn q.1)]; rfl
theorem rdA_F {D E : Dt} {i b l a : Nat} {k : Int} {v : UInt32} (e : E = u_F D l a k v) : d_A E i b = d_A D i b := by subst e; rfl
theorem rdA_q {D E : Dt} {i b l a : Nat} {k : Int} {v : Option Nat} (e : E = u_q D l a k v) : d_A E i b = d_A D i b := by subst e; rfl
theorem rdA_W {D E : Dt} {i b l a : Nat} {v : Int → Int} (e : E = u_W D l a v) (h : Nat.beq i l = false) : d_A E i b = d_A D i b := by
  subst e; have hn : ¬ i = l := fun z => by rw [z] at h; simp at h
  show (if _ ∧ _ then _ else _) = _; rw [if_neg (fun q => hn q.1)]; rfl
theorem rdA_N {D E : Dt} {i b l a : Nat} {v : Nat} (e : E = u_N D l a v) : d_A E i b = d_A D i b := by subst e; rfl
theorem rdA_e {D E : Dt} {i b : Nat} (e : E = D) : d_A E i b = d_A D i b := by subst e; rfl
theorem rdF_I {D E : Dt} {i b l a : Nat} {v : Int} (e : E = u_I D l a v) : d_F E i b = d_F D i b := by subst e; rfl
theorem rdF_R {D E : Dt} {i b l a : Nat} {v : Option Nat} (e : E = u_R D l a v) : d_F E i b = d_F D i b := by subst e; rfl
theorem rdF_A {D E : Dt} {i b l a : Nat} {k v : Int} (e : E = u_A D l a k v) : d_F E i b = d_F D i b := by subst e; rfl
theorem rdF_F {D E : Dt} {i b l a : Nat} {k : Int} {v : UInt32} (e : E = u_F D l a k v) (h : Nat.beq i l = false) : d_F E i b = d_F D i b := by
  subst e; have hn : ¬ i = l := fun z => by rw [z] at h; simp at h
  funext z; show (if _ ∧ _ ∧ _ then _ else _) = _; rw [if_neg (fun q => hn q.1)]; rfl
theorem rdF_q {D E : Dt} {i b l a : Nat} {k : Int} {v : Option Nat} (e : E = u_q D l a k v) : d_F E i b = d_F D i b := by subst e; rfl
theorem rdF_W {D E : Dt} {i b l a : Nat} {v : Int → Int} (e : E = u_W D l a v) : d_F E i b = d_F D i b := by subst e; rfl
theorem rdF_N {D E : Dt} {i b l a : Nat} {v : Nat} (e : E = u_N D l a v) : d_F E i b = d_F D i b := by subst e; rfl
theorem rdF_e {D E : Dt} {i b : Nat} (e : E = D) : d_F E i b = d_F D i b := by subst e; rfl
theorem rdq_I {D E : Dt} {i b l a : Nat} {v : Int} (e : E = u_I D l a v) : d_q E i b = d_q D i b := by subst e; rfl
theorem rdq_R {D E : Dt} {i b l a : Nat} {v : Option Nat} (e : E = u_R D l a v) : d_q E i b = d_q D i b := by subst e; rfl
theorem rdq_A {D E : Dt} {i b l a : Nat} {k v : Int} (e : E = u_A D l a k v) : d_q E i b = d_q D i b := by subst e; rfl
theorem rdq_F {D E : Dt} {i b l a : Nat} {k : Int} {v : UInt32} (e : E = u_F D l a k v) : d_q E i b = d_q D i b := by subst e; rfl
theorem rdq_q {D E : Dt} {i b l a : Nat} {k : Int} {v : Option Nat} (e : E = u_q D l a k v) (h : Nat.beq i l = false) : d_q E i b = d_q D i b := by
  subst e; have hn : ¬ i = l := fun z => by rw [z] at h; simp at h
  funext z; show (if _ ∧ _ ∧ _ then _ else _) = _; rw [if_neg (fun q => hn q.1)]; rfl
theorem rdq_W {D E : Dt} {i b l a : Nat} {v : Int → Int} (e : E = u_W D l a v) : d_q E i b = d_q D i b := by subst e; rfl
theorem rdq_N {D E : Dt} {i b l a : Nat} {v : Nat} (e : E = u_N D l a v) : d_q E i b = d_q D i b := by subst e; rfl
theorem rdq_e {D E : Dt} {i b : Nat} (e : E = D) : d_q E i b = d_q D i b := by subst e; rfl
theorem rdN_I {D E : Dt} {i b l a : Nat} {v : Int} (e : E = u_I D l a v) : d_N E i b = d_N D i b := by subst e; rfl
theorem rdN_R {D E : Dt} {i b l a : Nat} {v : Option Nat} (e : E = u_R D l a v) : d_N E i b = d_N D i b := by subst e; rfl
theorem rdN_A {D E : Dt} {i b l a : Nat} {k v : Int} (e : E = u_A D l a k v) : d_N E i b = d_N D i b := by subst e; rfl
theorem rdN_F {D E : Dt} {i b l a : Nat} {k : Int} {v : UInt32} (e : E = u_F D l a k v) : d_N E i b = d_N D i b := by subst e; rfl
theorem rdN_q {D E : Dt} {i b l a : Nat} {k : Int} {v : Option Nat} (e : E = u_q D l a k v) : d_N E i b = d_N D i b := by subst e; rfl
theorem rdN_W {D E : Dt} {i b l a : Nat} {v : Int → Int} (e : E = u_W D l a v) : d_N E i b = d_N D i b := by subst e; rfl
theorem rdN_N {D E : Dt} {i b l a : Nat} {v : Nat} (e : E = u_N D l a v) (h : Nat.beq i l = false) : d_N E i b = d_N D i b := by
  subst e; have hn : ¬ i = l := fun z => by rw [z] at h; simp at h
  show (if _ ∧ _ then _ else _) = _; rw [if_neg (fun q => hn q.1)]; rfl
theorem rdN_e {D E : Dt} {i b : Nat} (e : E = D) : d_N E i b = d_N D i b := by subst e; rfl
theorem rdI_s {D E : Dt} {i a : Nat} {v : Int} (e : E = u_I D i a v) : d_I E i a = v := by subst e; show (if _ ∧ _ then _ else _) = _; rw [if_pos ⟨rfl, rfl⟩]
theorem wA {D E : Dt} {i a : Nat} {k v : Int} (e : E = u_A D i a k v) (l : Int) : d_A E i a l = if l = k then v else d_A D i a l := by subst e; show (if _ ∧ _ ∧ _ then _ else _) = _; simp; rfl
theorem wF {D E : Dt} {i a : Nat} {k : Int} {v : UInt32} (e : E = u_F D i a k v) (l : Int) : d_F E i a l = if l = k then v else d_F D i a l := by subst e; show (if _ ∧ _ ∧ _ then _ else _) = _; simp; rfl
theorem w_un {α : Type} {x y : Option α} {Q : α → Prop} (h : x = y) (k : Wp y Q) : Wp x Q := by rw [h]; exact k
theorem w_bb {α β : Type} {x : Option α} {k : α → Option β} {Q : β → Prop} (h : Wp x (fun o => ∀ v, v = o → Wp (k v) Q)) : Wp (bnd x k) Q := by
  obtain ⟨o, h1, h2⟩ := h; rw [h1]; exact h2 o rfl
theorem w_bb2 {α β γ : Type} {x : Option (α × β)} {k : α → β → Option γ} {Q : γ → Prop} (h : Wp x (fun o => ∀ u v, u = o.1 → v = o.2 → Wp (k u v) Q)) : Wp (bnd2 x k) Q := by
  obtain ⟨o, h1, h2⟩ := h; rw [h1]; exact h2 o.1 o.2 rfl rfl
theorem w_some2 {α β γ : Type} {a : α} {b : β} {k : α → β → Option γ} {Q : γ → Prop} (h : ∀ u v, u = a → v = b → Wp (k u v) Q) : Wp (some (a, b)) (fun o => ∀ u v, u = o.1 → v = o.2 → Wp (k u v) Q) := ⟨_, rfl, h⟩
theorem w_on {α β : Type} {x : Option α} {k : α → Option β} {Q : β → Prop} (h : x ≠ none) (hk : ∀ b, x = some b → Wp (k b) Q) : Wp (bnd x k) Q := by
  cases x with
  | none => exact absurd rfl h
  | some b => exact hk b rfl
theorem w_tb {β : Type} {l : List Int32} {i : Int} {k : Int → Option β} {Q : β → Prop} (h : 0 ≤ i ∧ i < l.length) (hk : ∀ v, v = (l.getD i.toNat 0).toInt → Wp (k v) Q) : Wp (bnd (tqbl l i) k) Q := w_b (w_if' h) hk
